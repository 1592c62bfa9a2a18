set_option maxRecDepth 100000
set_option maxHeartbeats 4000000
theorem q478 : (Jvm.Cond.initialized "java/lang/Math") ∈ lw_all := lw_g (lw_at lw_m1 53 rfl) rfl
theorem q554 : (Jvm.Cond.fieldLinkNest "TypeHouse$Setter" (40 : Nat) "TypeHouse$Font" "edge" "I" "TypeHouse") ∈ lw_tbl := lw_at lw_m1 129 rfl
theorem q556 : (Jvm.Cond.fieldLinkNest "TypeHouse$Setter" (35 : Nat) "TypeHouse$Font" "edgeProgram" "I" "TypeHouse") ∈ lw_tbl := lw_at lw_m1 131 rfl
theorem q587 : (Jvm.Cond.fieldLinkNest "TypeHouse$Press" (448 : Nat) "TypeHouse$FontTable" "fonts" "[LTypeHouse$Font;" "TypeHouse") ∈ lw_tbl := lw_at lw_m1 162 rfl
theorem q651 : (Jvm.Cond.fieldLinkNest "TypeHouse$Expander" (168 : Nat) "TypeHouse$Settings" "kinds" "[I" "TypeHouse") ∈ lw_tbl := lw_at lw_m1 226 rfl
theorem q653 : (Jvm.Cond.fieldLinkNest "TypeHouse$Expander" (171 : Nat) "TypeHouse$Settings" "values" "[I" "TypeHouse") ∈ lw_tbl := lw_at lw_m1 228 rfl
theorem q708 : (Jvm.Cond.fieldLinkNest "TypeHouse$Expander" (153 : Nat) "TypeHouse$Names" "count" "I" "TypeHouse") ∈ lw_tbl := lw_at lw_m2 43 rfl
theorem q845 : (Jvm.Cond.fieldLink "TypeHouse$Expander" (142 : Nat) "TypeHouse$Expander" "mayTick" "I") ∈ lw_all := lw_g (lw_at lw_m2 180 rfl) rfl
theorem q971 : (Jvm.Cond.fieldLink "TypeHouse$Trie" (131 : Nat) "TypeHouse$Trie" "cells" "I") ∈ lw_all := lw_g (lw_at lw_m3 66 rfl) rfl
theorem q1140 : (Jvm.Cond.fieldLink "TypeHouse$Setter" (24 : Nat) "TypeHouse$Setter" "made" "I") ∈ lw_all := lw_g (lw_at lw_m3 235 rfl) rfl
theorem q1141 : (Jvm.Cond.fieldLink "TypeHouse$Setter" (28 : Nat) "TypeHouse$Setter" "size" "I") ∈ lw_all := lw_g (lw_at lw_m3 236 rfl) rfl
theorem q1142 : (Jvm.Cond.fieldLinkNest "TypeHouse$Press" (463 : Nat) "TypeHouse$Setter" "size" "I" "TypeHouse") ∈ lw_tbl := lw_at lw_m3 237 rfl
theorem q1780 : (Jvm.Cond.fieldLink "TypeHouse$Lists" (13 : Nat) "TypeHouse$Lists" "size" "I") ∈ lw_all := lw_g (lw_at lw_m6 155 rfl) rfl
theorem q1823 : (Jvm.Cond.fieldLink "TypeHouse$Press" (457 : Nat) "TypeHouse$Press" "wordFont" "I") ∈ lw_all := lw_g (lw_at lw_m6 198 rfl) rfl
theorem q2415 : (Jvm.Cond.instanceMethod ({ cls := "TypeHouse$Expander", name := "getExpanded", desc := "()I" } : Jvm.MethodName)) ∈ lw_all := lw_g (lw_at lw_m9 70 rfl) rfl
theorem q2416 : (Jvm.Cond.code ({ cls := "TypeHouse$Expander", name := "getExpanded", desc := "()I" } : Jvm.MethodName) prog_4_method_12_code (2 : Nat) (Option.some Jvm.ClassFile.FieldType.int)) ∈ lw_all := lw_g (lw_at lw_m9 71 rfl) rfl
theorem q2417 : (Jvm.Cond.methodLink "TypeHouse$Expander" (158 : Nat) ({ cls := "TypeHouse$Expander", name := "get", desc := "()I" } : Jvm.MethodName)) ∈ lw_all := lw_g (lw_at lw_m9 72 rfl) rfl
theorem q2419 : (Jvm.Cond.instanceMethod ({ cls := "TypeHouse$Expander", name := "get", desc := "()I" } : Jvm.MethodName)) ∈ lw_all := lw_g (lw_at lw_m9 74 rfl) rfl
theorem q2420 : (Jvm.Cond.code ({ cls := "TypeHouse$Expander", name := "get", desc := "()I" } : Jvm.MethodName) prog_4_method_4_code (2 : Nat) (Option.some Jvm.ClassFile.FieldType.int)) ∈ lw_all := lw_g (lw_at lw_m9 75 rfl) rfl
theorem q2421 : (Jvm.Cond.methodLink "TypeHouse$Expander" (149 : Nat) ({ cls := "TypeHouse$Tokens", name := "get", desc := "()I" } : Jvm.MethodName)) ∈ lw_all := lw_g (lw_at lw_m9 76 rfl) rfl
theorem q2469 : (Jvm.Cond.methodLink "TypeHouse$Expander" (154 : Nat) ({ cls := "TypeHouse$Settings", name := "reach", desc := "(I)V" } : Jvm.MethodName)) ∈ lw_all := lw_g (lw_at lw_m9 124 rfl) rfl
theorem q2473 : (Jvm.Cond.methodLink "TypeHouse$Expander" (181 : Nat) ({ cls := "TypeHouse$Expander", name := "isExpandable", desc := "(I)Z" } : Jvm.MethodName)) ∈ lw_all := lw_g (lw_at lw_m9 128 rfl) rfl
theorem q2475 : (Jvm.Cond.instanceMethod ({ cls := "TypeHouse$Expander", name := "isExpandable", desc := "(I)Z" } : Jvm.MethodName)) ∈ lw_all := lw_g (lw_at lw_m9 130 rfl) rfl
theorem q2476 : (Jvm.Cond.code ({ cls := "TypeHouse$Expander", name := "isExpandable", desc := "(I)Z" } : Jvm.MethodName) prog_4_method_11_code (3 : Nat) (Option.some Jvm.ClassFile.FieldType.boolean)) ∈ lw_all := lw_g (lw_at lw_m9 131 rfl) rfl
theorem q2477 : (Jvm.Cond.methodLink "TypeHouse$Expander" (174 : Nat) ({ cls := "TypeHouse$Expander", name := "kind", desc := "(I)I" } : Jvm.MethodName)) ∈ lw_all := lw_g (lw_at lw_m9 132 rfl) rfl
theorem q2479 : (Jvm.Cond.instanceMethod ({ cls := "TypeHouse$Expander", name := "kind", desc := "(I)I" } : Jvm.MethodName)) ∈ lw_all := lw_g (lw_at lw_m9 134 rfl) rfl
theorem q2480 : (Jvm.Cond.code ({ cls := "TypeHouse$Expander", name := "kind", desc := "(I)I" } : Jvm.MethodName) prog_4_method_8_code (2 : Nat) (Option.some Jvm.ClassFile.FieldType.int)) ∈ lw_all := lw_g (lw_at lw_m9 135 rfl) rfl
theorem q2481 : (Jvm.Cond.methodLink "TypeHouse$Expander" (161 : Nat) ({ cls := "TypeHouse$Expander", name := "isMarked", desc := "(I)Z" } : Jvm.MethodName)) ∈ lw_all := lw_g (lw_at lw_m9 136 rfl) rfl
theorem q2482 : (Jvm.Cond.static ({ cls := "TypeHouse$Expander", name := "isMarked", desc := "(I)Z" } : Jvm.MethodName)) ∈ lw_all := lw_g (lw_at lw_m9 137 rfl) rfl
theorem q2483 : (Jvm.Cond.code ({ cls := "TypeHouse$Expander", name := "isMarked", desc := "(I)Z" } : Jvm.MethodName) prog_4_method_6_code (1 : Nat) (Option.some Jvm.ClassFile.FieldType.boolean)) ∈ lw_all := lw_g (lw_at lw_m9 138 rfl) rfl
theorem q2484 : (Jvm.Cond.constant "TypeHouse$Expander" (159 : Nat) (1048576 : Int32)) ∈ lw_all := lw_g (lw_at lw_m9 139 rfl) rfl
theorem q2485 : (Jvm.Cond.methodLinkNest "TypeHouse$Expander" (165 : Nat) ({ cls := "TypeHouse", name := "isCharacter", desc := "(I)Z" } : Jvm.MethodName) "TypeHouse") ∈ lw_tbl := lw_at lw_m9 140 rfl
theorem q2486 : (Jvm.Cond.static ({ cls := "TypeHouse", name := "isCharacter", desc := "(I)Z" } : Jvm.MethodName)) ∈ lw_all := lw_g (lw_at lw_m9 141 rfl) rfl
theorem q2487 : (Jvm.Cond.code ({ cls := "TypeHouse", name := "isCharacter", desc := "(I)Z" } : Jvm.MethodName) prog_1_method_4_code (1 : Nat) (Option.some Jvm.ClassFile.FieldType.boolean)) ∈ lw_all := lw_g (lw_at lw_m9 142 rfl) rfl
theorem q2488 : (Jvm.Cond.methodLink "TypeHouse$Expander" (178 : Nat) ({ cls := "TypeHouse$Expander", name := "value", desc := "(I)I" } : Jvm.MethodName)) ∈ lw_all := lw_g (lw_at lw_m9 143 rfl) rfl
theorem q2490 : (Jvm.Cond.instanceMethod ({ cls := "TypeHouse$Expander", name := "value", desc := "(I)I" } : Jvm.MethodName)) ∈ lw_all := lw_g (lw_at lw_m9 145 rfl) rfl
theorem q2491 : (Jvm.Cond.code ({ cls := "TypeHouse$Expander", name := "value", desc := "(I)I" } : Jvm.MethodName) prog_4_method_9_code (2 : Nat) (Option.some Jvm.ClassFile.FieldType.int)) ∈ lw_all := lw_g (lw_at lw_m9 146 rfl) rfl
theorem q2492 : (Jvm.Cond.methodLink "TypeHouse$Expander" (184 : Nat) ({ cls := "TypeHouse$Expander", name := "expand", desc := "(I)V" } : Jvm.MethodName)) ∈ lw_all := lw_g (lw_at lw_m9 147 rfl) rfl
theorem q2494 : (Jvm.Cond.instanceMethod ({ cls := "TypeHouse$Expander", name := "expand", desc := "(I)V" } : Jvm.MethodName)) ∈ lw_all := lw_g (lw_at lw_m9 149 rfl) rfl
theorem q2495 : (Jvm.Cond.code ({ cls := "TypeHouse$Expander", name := "expand", desc := "(I)V" } : Jvm.MethodName) prog_4_method_16_code (2 : Nat) (Option.none : Option Jvm.ClassFile.FieldType)) ∈ lw_all := lw_g (lw_at lw_m9 150 rfl) rfl
theorem q2498 : (Jvm.Cond.instanceMethod ({ cls := "TypeHouse$Expander", name := "tick", desc := "()V" } : Jvm.MethodName)) ∈ lw_all := lw_g (lw_at lw_m9 153 rfl) rfl
theorem q2499 : (Jvm.Cond.code ({ cls := "TypeHouse$Expander", name := "tick", desc := "()V" } : Jvm.MethodName) prog_4_method_3_code (1 : Nat) (Option.none : Option Jvm.ClassFile.FieldType)) ∈ lw_all := lw_g (lw_at lw_m9 154 rfl) rfl
theorem q2500 : (Jvm.Cond.methodLink "TypeHouse$Expander" (145 : Nat) ({ cls := "TypeHouse$Trouble", name := "want", desc := "(ZI)V" } : Jvm.MethodName)) ∈ lw_all := lw_g (lw_at lw_m9 155 rfl) rfl
theorem q2796 : (Jvm.Cond.methodLink "TypeHouse$Press" (475 : Nat) ({ cls := "TypeHouse$Press", name := "setRow", desc := "([BILTypeHouse$Lists;)Z" } : Jvm.MethodName)) ∈ lw_all := lw_g (lw_at lw_m10 211 rfl) rfl
theorem q2798 : (Jvm.Cond.instanceMethod ({ cls := "TypeHouse$Press", name := "setRow", desc := "([BILTypeHouse$Lists;)Z" } : Jvm.MethodName)) ∈ lw_all := lw_g (lw_at lw_m10 213 rfl) rfl
theorem q2799 : (Jvm.Cond.code ({ cls := "TypeHouse$Press", name := "setRow", desc := "([BILTypeHouse$Lists;)Z" } : Jvm.MethodName) prog_26_method_24_code (7 : Nat) (Option.some Jvm.ClassFile.FieldType.boolean)) ∈ lw_all := lw_g (lw_at lw_m10 214 rfl) rfl
theorem q2800 : (Jvm.Cond.methodLink "TypeHouse$Press" (460 : Nat) ({ cls := "TypeHouse$Setter", name := "set", desc := "(LTypeHouse$Font;[BI)Z" } : Jvm.MethodName)) ∈ lw_all := lw_g (lw_at lw_m10 215 rfl) rfl
theorem q2801 : (Jvm.Cond.instanceMethod ({ cls := "TypeHouse$Setter", name := "set", desc := "(LTypeHouse$Font;[BI)Z" } : Jvm.MethodName)) ∈ lw_all := lw_g (lw_at lw_m10 216 rfl) rfl
theorem q2802 : (Jvm.Cond.selects "TypeHouse$Setter" ({ cls := "TypeHouse$Setter", name := "set", desc := "(LTypeHouse$Font;[BI)Z" } : Jvm.MethodName) ({ cls := "TypeHouse$Setter", name := "set", desc := "(LTypeHouse$Font;[BI)Z" } : Jvm.MethodName)) ∈ lw_all := lw_g (lw_at lw_m10 217 rfl) rfl
theorem q2803 : (Jvm.Cond.code ({ cls := "TypeHouse$Setter", name := "set", desc := "(LTypeHouse$Font;[BI)Z" } : Jvm.MethodName) prog_27_method_3_code (11 : Nat) (Option.some Jvm.ClassFile.FieldType.boolean)) ∈ lw_all := lw_g (lw_at lw_m10 218 rfl) rfl
theorem q2804 : (Jvm.Cond.methodLink "TypeHouse$Setter" (31 : Nat) ({ cls := "TypeHouse$Setter", name := "link", desc := "(II)I" } : Jvm.MethodName)) ∈ lw_all := lw_g (lw_at lw_m10 219 rfl) rfl
theorem q2806 : (Jvm.Cond.instanceMethod ({ cls := "TypeHouse$Setter", name := "link", desc := "(II)I" } : Jvm.MethodName)) ∈ lw_all := lw_g (lw_at lw_m10 221 rfl) rfl
theorem q2807 : (Jvm.Cond.code ({ cls := "TypeHouse$Setter", name := "link", desc := "(II)I" } : Jvm.MethodName) prog_27_method_2_code (4 : Nat) (Option.some Jvm.ClassFile.FieldType.int)) ∈ lw_all := lw_g (lw_at lw_m10 222 rfl) rfl
theorem q2808 : (Jvm.Cond.methodLink "TypeHouse$Setter" (43 : Nat) ({ cls := "TypeHouse$Font", name := "find", desc := "(II)I" } : Jvm.MethodName)) ∈ lw_all := lw_g (lw_at lw_m10 223 rfl) rfl
theorem q2809 : (Jvm.Cond.instanceMethod ({ cls := "TypeHouse$Font", name := "find", desc := "(II)I" } : Jvm.MethodName)) ∈ lw_all := lw_g (lw_at lw_m10 224 rfl) rfl
theorem q2810 : (Jvm.Cond.selects "TypeHouse$Font" ({ cls := "TypeHouse$Font", name := "find", desc := "(II)I" } : Jvm.MethodName) ({ cls := "TypeHouse$Font", name := "find", desc := "(II)I" } : Jvm.MethodName)) ∈ lw_all := lw_g (lw_at lw_m10 225 rfl) rfl
theorem q2811 : (Jvm.Cond.code ({ cls := "TypeHouse$Font", name := "find", desc := "(II)I" } : Jvm.MethodName) prog_7_method_26_code (7 : Nat) (Option.some Jvm.ClassFile.FieldType.int)) ∈ lw_all := lw_g (lw_at lw_m10 226 rfl) rfl
theorem q2812 : (Jvm.Cond.methodLink "TypeHouse$Font" (135 : Nat) ({ cls := "TypeHouse$Font", name := "begin", desc := "(I)I" } : Jvm.MethodName)) ∈ lw_all := lw_g (lw_at lw_m10 227 rfl) rfl
theorem q2814 : (Jvm.Cond.instanceMethod ({ cls := "TypeHouse$Font", name := "begin", desc := "(I)I" } : Jvm.MethodName)) ∈ lw_all := lw_g (lw_at lw_m10 229 rfl) rfl
theorem q2815 : (Jvm.Cond.code ({ cls := "TypeHouse$Font", name := "begin", desc := "(I)I" } : Jvm.MethodName) prog_7_method_25_code (2 : Nat) (Option.some Jvm.ClassFile.FieldType.int)) ∈ lw_all := lw_g (lw_at lw_m10 230 rfl) rfl
theorem q2816 : (Jvm.Cond.constant "TypeHouse$Setter" (46 : Nat) (32768 : Int32)) ∈ lw_all := lw_g (lw_at lw_m10 231 rfl) rfl
theorem q2817 : (Jvm.Cond.methodLink "TypeHouse$Setter" (47 : Nat) ({ cls := "TypeHouse$Font", name := "kern", desc := "(I)I" } : Jvm.MethodName)) ∈ lw_all := lw_g (lw_at lw_m10 232 rfl) rfl
theorem q2818 : (Jvm.Cond.instanceMethod ({ cls := "TypeHouse$Font", name := "kern", desc := "(I)I" } : Jvm.MethodName)) ∈ lw_all := lw_g (lw_at lw_m10 233 rfl) rfl
theorem q2819 : (Jvm.Cond.selects "TypeHouse$Font" ({ cls := "TypeHouse$Font", name := "kern", desc := "(I)I" } : Jvm.MethodName) ({ cls := "TypeHouse$Font", name := "kern", desc := "(I)I" } : Jvm.MethodName)) ∈ lw_all := lw_g (lw_at lw_m10 234 rfl) rfl
theorem q2820 : (Jvm.Cond.code ({ cls := "TypeHouse$Font", name := "kern", desc := "(I)I" } : Jvm.MethodName) prog_7_method_27_code (2 : Nat) (Option.some Jvm.ClassFile.FieldType.int)) ∈ lw_all := lw_g (lw_at lw_m10 235 rfl) rfl
theorem q2821 : (Jvm.Cond.methodLink "TypeHouse$Setter" (51 : Nat) ({ cls := "TypeHouse$Setter", name := "join", desc := "(III)I" } : Jvm.MethodName)) ∈ lw_all := lw_g (lw_at lw_m10 236 rfl) rfl
theorem q2823 : (Jvm.Cond.instanceMethod ({ cls := "TypeHouse$Setter", name := "join", desc := "(III)I" } : Jvm.MethodName)) ∈ lw_all := lw_g (lw_at lw_m10 238 rfl) rfl
theorem q2824 : (Jvm.Cond.code ({ cls := "TypeHouse$Setter", name := "join", desc := "(III)I" } : Jvm.MethodName) prog_27_method_4_code (9 : Nat) (Option.some Jvm.ClassFile.FieldType.int)) ∈ lw_all := lw_g (lw_at lw_m10 239 rfl) rfl
theorem q2825 : (Jvm.Cond.methodLink "TypeHouse$Setter" (55 : Nat) ({ cls := "TypeHouse$Setter", name := "gather", desc := "()I" } : Jvm.MethodName)) ∈ lw_all := lw_g (lw_at lw_m11 0 rfl) rfl
theorem q2827 : (Jvm.Cond.instanceMethod ({ cls := "TypeHouse$Setter", name := "gather", desc := "()I" } : Jvm.MethodName)) ∈ lw_all := lw_g (lw_at lw_m11 2 rfl) rfl
theorem q2828 : (Jvm.Cond.code ({ cls := "TypeHouse$Setter", name := "gather", desc := "()I" } : Jvm.MethodName) prog_27_method_5_code (3 : Nat) (Option.some Jvm.ClassFile.FieldType.int)) ∈ lw_all := lw_g (lw_at lw_m11 3 rfl) rfl
theorem q2829 : (Jvm.Cond.methodLink "TypeHouse$Press" (464 : Nat) ({ cls := "TypeHouse$Setter", name := "item", desc := "(I)I" } : Jvm.MethodName)) ∈ lw_all := lw_g (lw_at lw_m11 4 rfl) rfl
theorem q2830 : (Jvm.Cond.instanceMethod ({ cls := "TypeHouse$Setter", name := "item", desc := "(I)I" } : Jvm.MethodName)) ∈ lw_all := lw_g (lw_at lw_m11 5 rfl) rfl
theorem q2831 : (Jvm.Cond.selects "TypeHouse$Setter" ({ cls := "TypeHouse$Setter", name := "item", desc := "(I)I" } : Jvm.MethodName) ({ cls := "TypeHouse$Setter", name := "item", desc := "(I)I" } : Jvm.MethodName)) ∈ lw_all := lw_g (lw_at lw_m11 6 rfl) rfl
theorem q2832 : (Jvm.Cond.code ({ cls := "TypeHouse$Setter", name := "item", desc := "(I)I" } : Jvm.MethodName) prog_27_method_7_code (3 : Nat) (Option.some Jvm.ClassFile.FieldType.int)) ∈ lw_all := lw_g (lw_at lw_m11 7 rfl) rfl
theorem q2833 : (Jvm.Cond.methodLink "TypeHouse$Press" (467 : Nat) ({ cls := "TypeHouse$Setter", name := "isKern", desc := "(I)Z" } : Jvm.MethodName)) ∈ lw_all := lw_g (lw_at lw_m11 8 rfl) rfl
theorem q2834 : (Jvm.Cond.instanceMethod ({ cls := "TypeHouse$Setter", name := "isKern", desc := "(I)Z" } : Jvm.MethodName)) ∈ lw_all := lw_g (lw_at lw_m11 9 rfl) rfl
theorem q2835 : (Jvm.Cond.selects "TypeHouse$Setter" ({ cls := "TypeHouse$Setter", name := "isKern", desc := "(I)Z" } : Jvm.MethodName) ({ cls := "TypeHouse$Setter", name := "isKern", desc := "(I)Z" } : Jvm.MethodName)) ∈ lw_all := lw_g (lw_at lw_m11 10 rfl) rfl
theorem q2836 : (Jvm.Cond.code ({ cls := "TypeHouse$Setter", name := "isKern", desc := "(I)Z" } : Jvm.MethodName) prog_27_method_6_code (2 : Nat) (Option.some Jvm.ClassFile.FieldType.boolean)) ∈ lw_all := lw_g (lw_at lw_m11 11 rfl) rfl
theorem q2837 : (Jvm.Cond.methodLink "TypeHouse$Press" (322 : Nat) ({ cls := "TypeHouse$Lists", name := "add", desc := "(IIIIII)V" } : Jvm.MethodName)) ∈ lw_all := lw_g (lw_at lw_m11 12 rfl) rfl
theorem q2838 : (Jvm.Cond.instanceMethod ({ cls := "TypeHouse$Lists", name := "add", desc := "(IIIIII)V" } : Jvm.MethodName)) ∈ lw_all := lw_g (lw_at lw_m11 13 rfl) rfl
theorem q2839 : (Jvm.Cond.selects "TypeHouse$Lists" ({ cls := "TypeHouse$Lists", name := "add", desc := "(IIIIII)V" } : Jvm.MethodName) ({ cls := "TypeHouse$Lists", name := "add", desc := "(IIIIII)V" } : Jvm.MethodName)) ∈ lw_all := lw_g (lw_at lw_m11 14 rfl) rfl
theorem q2840 : (Jvm.Cond.code ({ cls := "TypeHouse$Lists", name := "add", desc := "(IIIIII)V" } : Jvm.MethodName) prog_13_method_2_code (8 : Nat) (Option.none : Option Jvm.ClassFile.FieldType)) ∈ lw_all := lw_g (lw_at lw_m11 15 rfl) rfl
theorem q2841 : (Jvm.Cond.methodLinkNest "TypeHouse$Lists" (17 : Nat) ({ cls := "TypeHouse", name := "grown", desc := "([II)[I" } : Jvm.MethodName) "TypeHouse") ∈ lw_tbl := lw_at lw_m11 16 rfl
theorem q2842 : (Jvm.Cond.methodLink "TypeHouse$Press" (470 : Nat) ({ cls := "TypeHouse$Font", name := "of", desc := "(II)I" } : Jvm.MethodName)) ∈ lw_all := lw_g (lw_at lw_m11 17 rfl) rfl
theorem q2843 : (Jvm.Cond.instanceMethod ({ cls := "TypeHouse$Font", name := "of", desc := "(II)I" } : Jvm.MethodName)) ∈ lw_all := lw_g (lw_at lw_m11 18 rfl) rfl
theorem q2844 : (Jvm.Cond.selects "TypeHouse$Font" ({ cls := "TypeHouse$Font", name := "of", desc := "(II)I" } : Jvm.MethodName) ({ cls := "TypeHouse$Font", name := "of", desc := "(II)I" } : Jvm.MethodName)) ∈ lw_all := lw_g (lw_at lw_m11 19 rfl) rfl
theorem q2845 : (Jvm.Cond.code ({ cls := "TypeHouse$Font", name := "of", desc := "(II)I" } : Jvm.MethodName) prog_7_method_24_code (4 : Nat) (Option.some Jvm.ClassFile.FieldType.int)) ∈ lw_all := lw_g (lw_at lw_m11 20 rfl) rfl
theorem q2846 : (Jvm.Cond.methodLink "TypeHouse$Press" (289 : Nat) ({ cls := "TypeHouse$Trouble", name := "want", desc := "(ZI)V" } : Jvm.MethodName)) ∈ lw_all := lw_g (lw_at lw_m11 21 rfl) rfl
theorem q2849 : (Jvm.Cond.instanceMethod ({ cls := "TypeHouse$Press", name := "findHyphens", desc := "()V" } : Jvm.MethodName)) ∈ lw_all := lw_g (lw_at lw_m11 24 rfl) rfl
theorem q2850 : (Jvm.Cond.code ({ cls := "TypeHouse$Press", name := "findHyphens", desc := "()V" } : Jvm.MethodName) prog_26_method_28_code (3 : Nat) (Option.none : Option Jvm.ClassFile.FieldType)) ∈ lw_all := lw_g (lw_at lw_m11 25 rfl) rfl
theorem q2851 : (Jvm.Cond.methodLink "TypeHouse$Press" (482 : Nat) ({ cls := "java/util/Arrays", name := "fill", desc := "([IIII)V" } : Jvm.MethodName)) ∈ lw_all := lw_g (lw_at lw_m11 26 rfl) rfl
theorem q2912 : (Jvm.Cond.static ({ cls := "java/lang/Math", name := "max", desc := "(II)I" } : Jvm.MethodName)) ∈ lw_all := lw_g (lw_at lw_m11 87 rfl) rfl
theorem q2913 : (Jvm.Cond.code ({ cls := "java/lang/Math", name := "max", desc := "(II)I" } : Jvm.MethodName) prog_49_method_65_code (2 : Nat) (Option.some Jvm.ClassFile.FieldType.int)) ∈ lw_all := lw_g (lw_at lw_m11 88 rfl) rfl
theorem q3111 : (Jvm.Cond.methodLink "TypeHouse$Press" (451 : Nat) ({ cls := "TypeHouse$Font", name := "has", desc := "(I)Z" } : Jvm.MethodName)) ∈ lw_all := lw_g (lw_at lw_m12 46 rfl) rfl
theorem q3112 : (Jvm.Cond.methodLink "TypeHouse$Press" (485 : Nat) ({ cls := "TypeHouse$Hyphenator", name := "letter", desc := "(I)I" } : Jvm.MethodName)) ∈ lw_all := lw_g (lw_at lw_m12 47 rfl) rfl
theorem q3113 : (Jvm.Cond.methodLink "TypeHouse$Press" (488 : Nat) ({ cls := "TypeHouse$Hyphenator", name := "look", desc := "([BI)V" } : Jvm.MethodName)) ∈ lw_all := lw_g (lw_at lw_m12 48 rfl) rfl
theorem q3114 : (Jvm.Cond.instanceMethod ({ cls := "TypeHouse$Hyphenator", name := "look", desc := "([BI)V" } : Jvm.MethodName)) ∈ lw_all := lw_g (lw_at lw_m12 49 rfl) rfl
theorem q3115 : (Jvm.Cond.selects "TypeHouse$Hyphenator" ({ cls := "TypeHouse$Hyphenator", name := "look", desc := "([BI)V" } : Jvm.MethodName) ({ cls := "TypeHouse$Hyphenator", name := "look", desc := "([BI)V" } : Jvm.MethodName)) ∈ lw_all := lw_g (lw_at lw_m12 50 rfl) rfl
theorem q3116 : (Jvm.Cond.code ({ cls := "TypeHouse$Hyphenator", name := "look", desc := "([BI)V" } : Jvm.MethodName) prog_10_method_14_code (5 : Nat) (Option.none : Option Jvm.ClassFile.FieldType)) ∈ lw_all := lw_g (lw_at lw_m12 51 rfl) rfl
theorem q3117 : (Jvm.Cond.methodLink "TypeHouse$Hyphenator" (134 : Nat) ({ cls := "TypeHouse$Trie", name := "raise", desc := "(LTypeHouse$Letters;)V" } : Jvm.MethodName)) ∈ lw_all := lw_g (lw_at lw_m12 52 rfl) rfl
theorem q3118 : (Jvm.Cond.instanceMethod ({ cls := "TypeHouse$Trie", name := "raise", desc := "(LTypeHouse$Letters;)V" } : Jvm.MethodName)) ∈ lw_all := lw_g (lw_at lw_m12 53 rfl) rfl
theorem q3119 : (Jvm.Cond.selects "TypeHouse$Trie" ({ cls := "TypeHouse$Trie", name := "raise", desc := "(LTypeHouse$Letters;)V" } : Jvm.MethodName) ({ cls := "TypeHouse$Trie", name := "raise", desc := "(LTypeHouse$Letters;)V" } : Jvm.MethodName)) ∈ lw_all := lw_g (lw_at lw_m12 54 rfl) rfl
theorem q3120 : (Jvm.Cond.code ({ cls := "TypeHouse$Trie", name := "raise", desc := "(LTypeHouse$Letters;)V" } : Jvm.MethodName) prog_33_method_14_code (7 : Nat) (Option.none : Option Jvm.ClassFile.FieldType)) ∈ lw_all := lw_g (lw_at lw_m12 55 rfl) rfl
theorem q3121 : (Jvm.Cond.methodLink "TypeHouse$Trie" (142 : Nat) ({ cls := "TypeHouse$Trie", name := "pack", desc := "()V" } : Jvm.MethodName)) ∈ lw_all := lw_g (lw_at lw_m12 56 rfl) rfl
theorem q3123 : (Jvm.Cond.instanceMethod ({ cls := "TypeHouse$Trie", name := "pack", desc := "()V" } : Jvm.MethodName)) ∈ lw_all := lw_g (lw_at lw_m12 58 rfl) rfl
theorem q3124 : (Jvm.Cond.code ({ cls := "TypeHouse$Trie", name := "pack", desc := "()V" } : Jvm.MethodName) prog_33_method_13_code (2 : Nat) (Option.none : Option Jvm.ClassFile.FieldType)) ∈ lw_all := lw_g (lw_at lw_m12 59 rfl) rfl
theorem q3125 : (Jvm.Cond.methodLink "TypeHouse$Trie" (139 : Nat) ({ cls := "TypeHouse$Trie", name := "lay", desc := "(I)V" } : Jvm.MethodName)) ∈ lw_all := lw_g (lw_at lw_m12 60 rfl) rfl
theorem q3127 : (Jvm.Cond.instanceMethod ({ cls := "TypeHouse$Trie", name := "lay", desc := "(I)V" } : Jvm.MethodName)) ∈ lw_all := lw_g (lw_at lw_m12 62 rfl) rfl
theorem q3128 : (Jvm.Cond.code ({ cls := "TypeHouse$Trie", name := "lay", desc := "(I)V" } : Jvm.MethodName) prog_33_method_12_code (4 : Nat) (Option.none : Option Jvm.ClassFile.FieldType)) ∈ lw_all := lw_g (lw_at lw_m12 63 rfl) rfl
theorem q3129 : (Jvm.Cond.methodLink "TypeHouse$Trie" (123 : Nat) ({ cls := "TypeHouse$Trie", name := "widen", desc := "(I)V" } : Jvm.MethodName)) ∈ lw_all := lw_g (lw_at lw_m12 64 rfl) rfl
theorem q3131 : (Jvm.Cond.instanceMethod ({ cls := "TypeHouse$Trie", name := "widen", desc := "(I)V" } : Jvm.MethodName)) ∈ lw_all := lw_g (lw_at lw_m12 66 rfl) rfl
theorem q3132 : (Jvm.Cond.code ({ cls := "TypeHouse$Trie", name := "widen", desc := "(I)V" } : Jvm.MethodName) prog_33_method_11_code (3 : Nat) (Option.none : Option Jvm.ClassFile.FieldType)) ∈ lw_all := lw_g (lw_at lw_m12 67 rfl) rfl
theorem q3133 : (Jvm.Cond.methodLink "TypeHouse$Trie" (127 : Nat) ({ cls := "TypeHouse$Trie", name := "fits", desc := "(II)Z" } : Jvm.MethodName)) ∈ lw_all := lw_g (lw_at lw_m12 68 rfl) rfl
theorem q3135 : (Jvm.Cond.instanceMethod ({ cls := "TypeHouse$Trie", name := "fits", desc := "(II)Z" } : Jvm.MethodName)) ∈ lw_all := lw_g (lw_at lw_m12 70 rfl) rfl
theorem q3136 : (Jvm.Cond.code ({ cls := "TypeHouse$Trie", name := "fits", desc := "(II)Z" } : Jvm.MethodName) prog_33_method_10_code (5 : Nat) (Option.some Jvm.ClassFile.FieldType.boolean)) ∈ lw_all := lw_g (lw_at lw_m12 71 rfl) rfl
theorem q3137 : (Jvm.Cond.methodLink "TypeHouse$Trie" (134 : Nat) ({ cls := "java/lang/Math", name := "max", desc := "(II)I" } : Jvm.MethodName)) ∈ lw_all := lw_g (lw_at lw_m12 72 rfl) rfl
theorem q3138 : (Jvm.Cond.methodLink "TypeHouse$Trie" (145 : Nat) ({ cls := "TypeHouse$Trie", name := "say", desc := "(IILTypeHouse$Letters;)V" } : Jvm.MethodName)) ∈ lw_all := lw_g (lw_at lw_m12 73 rfl) rfl
theorem q3140 : (Jvm.Cond.instanceMethod ({ cls := "TypeHouse$Trie", name := "say", desc := "(IILTypeHouse$Letters;)V" } : Jvm.MethodName)) ∈ lw_all := lw_g (lw_at lw_m12 75 rfl) rfl
theorem q3141 : (Jvm.Cond.code ({ cls := "TypeHouse$Trie", name := "say", desc := "(IILTypeHouse$Letters;)V" } : Jvm.MethodName) prog_33_method_15_code (6 : Nat) (Option.none : Option Jvm.ClassFile.FieldType)) ∈ lw_all := lw_g (lw_at lw_m12 76 rfl) rfl
theorem q3142 : (Jvm.Cond.methodLink "TypeHouse$Hyphenator" (137 : Nat) ({ cls := "TypeHouse$ToldWords", name := "hasHyphen", desc := "(II)Z" } : Jvm.MethodName)) ∈ lw_all := lw_g (lw_at lw_m12 77 rfl) rfl
theorem q3143 : (Jvm.Cond.instanceMethod ({ cls := "TypeHouse$ToldWords", name := "hasHyphen", desc := "(II)Z" } : Jvm.MethodName)) ∈ lw_all := lw_g (lw_at lw_m12 78 rfl) rfl
theorem q3144 : (Jvm.Cond.selects "TypeHouse$ToldWords" ({ cls := "TypeHouse$ToldWords", name := "hasHyphen", desc := "(II)Z" } : Jvm.MethodName) ({ cls := "TypeHouse$ToldWords", name := "hasHyphen", desc := "(II)Z" } : Jvm.MethodName)) ∈ lw_all := lw_g (lw_at lw_m12 79 rfl) rfl
theorem q3145 : (Jvm.Cond.code ({ cls := "TypeHouse$ToldWords", name := "hasHyphen", desc := "(II)Z" } : Jvm.MethodName) prog_32_method_9_code (3 : Nat) (Option.some Jvm.ClassFile.FieldType.boolean)) ∈ lw_all := lw_g (lw_at lw_m12 80 rfl) rfl
theorem q3146 : (Jvm.Cond.methodLink "TypeHouse$Press" (492 : Nat) ({ cls := "TypeHouse$Hyphenator", name := "isBroken", desc := "(I)Z" } : Jvm.MethodName)) ∈ lw_all := lw_g (lw_at lw_m12 81 rfl) rfl
theorem q3147 : (Jvm.Cond.instanceMethod ({ cls := "TypeHouse$Hyphenator", name := "isBroken", desc := "(I)Z" } : Jvm.MethodName)) ∈ lw_all := lw_g (lw_at lw_m12 82 rfl) rfl
theorem q3148 : (Jvm.Cond.selects "TypeHouse$Hyphenator" ({ cls := "TypeHouse$Hyphenator", name := "isBroken", desc := "(I)Z" } : Jvm.MethodName) ({ cls := "TypeHouse$Hyphenator", name := "isBroken", desc := "(I)Z" } : Jvm.MethodName)) ∈ lw_all := lw_g (lw_at lw_m12 83 rfl) rfl
theorem q3149 : (Jvm.Cond.code ({ cls := "TypeHouse$Hyphenator", name := "isBroken", desc := "(I)Z" } : Jvm.MethodName) prog_10_method_15_code (2 : Nat) (Option.some Jvm.ClassFile.FieldType.boolean)) ∈ lw_all := lw_g (lw_at lw_m12 84 rfl) rfl
theorem q3150 : (Jvm.Cond.methodLink "TypeHouse$Press" (495 : Nat) ({ cls := "TypeHouse$Press", name := "noteHyphen", desc := "(I)V" } : Jvm.MethodName)) ∈ lw_all := lw_g (lw_at lw_m12 85 rfl) rfl
theorem q3152 : (Jvm.Cond.instanceMethod ({ cls := "TypeHouse$Press", name := "noteHyphen", desc := "(I)V" } : Jvm.MethodName)) ∈ lw_all := lw_g (lw_at lw_m12 87 rfl) rfl
theorem q3153 : (Jvm.Cond.code ({ cls := "TypeHouse$Press", name := "noteHyphen", desc := "(I)V" } : Jvm.MethodName) prog_26_method_27_code (6 : Nat) (Option.none : Option Jvm.ClassFile.FieldType)) ∈ lw_all := lw_g (lw_at lw_m12 88 rfl) rfl
theorem q3154 : (Jvm.Cond.methodLink "TypeHouse$Press" (471 : Nat) ({ cls := "TypeHouse$Press", name := "areSame", desc := "(LTypeHouse$Lists;ILTypeHouse$Lists;I)Z" } : Jvm.MethodName)) ∈ lw_all := lw_g (lw_at lw_m12 89 rfl) rfl
theorem q3155 : (Jvm.Cond.static ({ cls := "TypeHouse$Press", name := "areSame", desc := "(LTypeHouse$Lists;ILTypeHouse$Lists;I)Z" } : Jvm.MethodName)) ∈ lw_all := lw_g (lw_at lw_m12 90 rfl) rfl
theorem q3156 : (Jvm.Cond.code ({ cls := "TypeHouse$Press", name := "areSame", desc := "(LTypeHouse$Lists;ILTypeHouse$Lists;I)Z" } : Jvm.MethodName) prog_26_method_25_code (4 : Nat) (Option.some Jvm.ClassFile.FieldType.boolean)) ∈ lw_all := lw_g (lw_at lw_m12 91 rfl) rfl
theorem q3157 : (Jvm.Cond.methodLink "TypeHouse$Press" (359 : Nat) ({ cls := "TypeHouse$Lists", name := "kind", desc := "(I)I" } : Jvm.MethodName)) ∈ lw_all := lw_g (lw_at lw_m12 92 rfl) rfl
theorem q3158 : (Jvm.Cond.instanceMethod ({ cls := "TypeHouse$Lists", name := "kind", desc := "(I)I" } : Jvm.MethodName)) ∈ lw_all := lw_g (lw_at lw_m12 93 rfl) rfl
theorem q3159 : (Jvm.Cond.selects "TypeHouse$Lists" ({ cls := "TypeHouse$Lists", name := "kind", desc := "(I)I" } : Jvm.MethodName) ({ cls := "TypeHouse$Lists", name := "kind", desc := "(I)I" } : Jvm.MethodName)) ∈ lw_all := lw_g (lw_at lw_m12 94 rfl) rfl
theorem q3160 : (Jvm.Cond.code ({ cls := "TypeHouse$Lists", name := "kind", desc := "(I)I" } : Jvm.MethodName) prog_13_method_3_code (2 : Nat) (Option.some Jvm.ClassFile.FieldType.int)) ∈ lw_all := lw_g (lw_at lw_m12 95 rfl) rfl
theorem q3161 : (Jvm.Cond.methodLink "TypeHouse$Press" (363 : Nat) ({ cls := "TypeHouse$Lists", name := "of", desc := "(II)I" } : Jvm.MethodName)) ∈ lw_all := lw_g (lw_at lw_m12 96 rfl) rfl
theorem q3162 : (Jvm.Cond.instanceMethod ({ cls := "TypeHouse$Lists", name := "of", desc := "(II)I" } : Jvm.MethodName)) ∈ lw_all := lw_g (lw_at lw_m12 97 rfl) rfl
theorem q3163 : (Jvm.Cond.selects "TypeHouse$Lists" ({ cls := "TypeHouse$Lists", name := "of", desc := "(II)I" } : Jvm.MethodName) ({ cls := "TypeHouse$Lists", name := "of", desc := "(II)I" } : Jvm.MethodName)) ∈ lw_all := lw_g (lw_at lw_m12 98 rfl) rfl
theorem q3164 : (Jvm.Cond.code ({ cls := "TypeHouse$Lists", name := "of", desc := "(II)I" } : Jvm.MethodName) prog_13_method_4_code (3 : Nat) (Option.some Jvm.ClassFile.FieldType.int)) ∈ lw_all := lw_g (lw_at lw_m12 99 rfl) rfl
theorem q3165 : (Jvm.Cond.methodLink "TypeHouse$Press" (479 : Nat) ({ cls := "TypeHouse$Press", name := "ends", desc := "(LTypeHouse$Lists;ILTypeHouse$Lists;I)Z" } : Jvm.MethodName)) ∈ lw_all := lw_g (lw_at lw_m12 100 rfl) rfl
theorem q3166 : (Jvm.Cond.static ({ cls := "TypeHouse$Press", name := "ends", desc := "(LTypeHouse$Lists;ILTypeHouse$Lists;I)Z" } : Jvm.MethodName)) ∈ lw_all := lw_g (lw_at lw_m12 101 rfl) rfl
theorem q3167 : (Jvm.Cond.code ({ cls := "TypeHouse$Press", name := "ends", desc := "(LTypeHouse$Lists;ILTypeHouse$Lists;I)Z" } : Jvm.MethodName) prog_26_method_26_code (6 : Nat) (Option.some Jvm.ClassFile.FieldType.boolean)) ∈ lw_all := lw_g (lw_at lw_m12 102 rfl) rfl
theorem q3170 : (Jvm.Cond.instanceMethod ({ cls := "TypeHouse$Press", name := "addHyphen", desc := "(II)V" } : Jvm.MethodName)) ∈ lw_all := lw_g (lw_at lw_m12 105 rfl) rfl
theorem q3171 : (Jvm.Cond.code ({ cls := "TypeHouse$Press", name := "addHyphen", desc := "(II)V" } : Jvm.MethodName) prog_26_method_29_code (3 : Nat) (Option.none : Option Jvm.ClassFile.FieldType)) ∈ lw_all := lw_g (lw_at lw_m12 106 rfl) rfl
theorem q3172 : (Jvm.Cond.methodLink "TypeHouse$Press" (498 : Nat) ({ cls := "TypeHouse$FontTable", name := "width", desc := "(II)I" } : Jvm.MethodName)) ∈ lw_all := lw_g (lw_at lw_m12 107 rfl) rfl
theorem q3173 : (Jvm.Cond.instanceMethod ({ cls := "TypeHouse$FontTable", name := "width", desc := "(II)I" } : Jvm.MethodName)) ∈ lw_all := lw_g (lw_at lw_m12 108 rfl) rfl
theorem q3174 : (Jvm.Cond.selects "TypeHouse$FontTable" ({ cls := "TypeHouse$FontTable", name := "width", desc := "(II)I" } : Jvm.MethodName) ({ cls := "TypeHouse$FontTable", name := "width", desc := "(II)I" } : Jvm.MethodName)) ∈ lw_all := lw_g (lw_at lw_m12 109 rfl) rfl
theorem q3175 : (Jvm.Cond.code ({ cls := "TypeHouse$FontTable", name := "width", desc := "(II)I" } : Jvm.MethodName) prog_9_method_6_code (3 : Nat) (Option.some Jvm.ClassFile.FieldType.int)) ∈ lw_all := lw_g (lw_at lw_m12 110 rfl) rfl
theorem q3176 : (Jvm.Cond.methodLink "TypeHouse$FontTable" (88 : Nat) ({ cls := "TypeHouse$Font", name := "of", desc := "(II)I" } : Jvm.MethodName)) ∈ lw_all := lw_g (lw_at lw_m12 111 rfl) rfl
theorem q3177 : (Jvm.Cond.methodLink "TypeHouse$Press" (318 : Nat) ({ cls := "TypeHouse$Press", name := "put", desc := "(IIIIII)V" } : Jvm.MethodName)) ∈ lw_all := lw_g (lw_at lw_m12 112 rfl) rfl
theorem q3179 : (Jvm.Cond.instanceMethod ({ cls := "TypeHouse$Press", name := "put", desc := "(IIIIII)V" } : Jvm.MethodName)) ∈ lw_all := lw_g (lw_at lw_m12 114 rfl) rfl
theorem q3180 : (Jvm.Cond.code ({ cls := "TypeHouse$Press", name := "put", desc := "(IIIIII)V" } : Jvm.MethodName) prog_26_method_11_code (7 : Nat) (Option.none : Option Jvm.ClassFile.FieldType)) ∈ lw_all := lw_g (lw_at lw_m12 115 rfl) rfl
abbrev cX8_get : ByteArray := prog_4_method_4_code
def yX8_get : MethodName := ⟨RX8, "get", "()I"⟩
def YX8_get : eY := (yX8_get, cX8_get, 2, (Option.some FieldType.int), [])
theorem mX8_get : e_mv YX8_get RX8 0 := ⟨q2419, qs43, q2420, by decide, by decide +kernel, (e_sig (by decide +kernel))⟩
theorem dX8_get_0 : decode cX8_get 0 = .ok (.aload_n 0, 1) := dc_42 (by decide +kernel)
theorem dX8_get_1 : decode cX8_get 1 = .ok (.getfield 93, 3) := dc_180 (a := 0) (b := 93) (n := 93) (by decide +kernel)
theorem dX8_get_4 : decode cX8_get 4 = .ok (.invokevirtual 149, 3) := dc_182 (a := 0) (b := 149) (n := 149) (by decide +kernel)
theorem dX8_get_7 : decode cX8_get 7 = .ok (.istore_n 1, 1) := dc_60 (by decide +kernel)
theorem dX8_get_8 : decode cX8_get 8 = .ok (.aload_n 0, 1) := dc_42 (by decide +kernel)
theorem dX8_get_9 : decode cX8_get 9 = .ok (.getfield 12, 3) := dc_180 (a := 0) (b := 12) (n := 12) (by decide +kernel)
theorem dX8_get_12 : decode cX8_get 12 = .ok (.aload_n 0, 1) := dc_42 (by decide +kernel)
theorem dX8_get_13 : decode cX8_get 13 = .ok (.getfield 68, 3) := dc_180 (a := 0) (b := 68) (n := 68) (by decide +kernel)
theorem dX8_get_16 : decode cX8_get 16 = .ok (.getfield 153, 3) := dc_180 (a := 0) (b := 153) (n := 153) (by decide +kernel)
theorem dX8_get_19 : decode cX8_get 19 = .ok (.invokevirtual 154, 3) := dc_182 (a := 0) (b := 154) (n := 154) (by decide +kernel)
theorem dX8_get_22 : decode cX8_get 22 = .ok (.iload_n 1, 1) := dc_27 (by decide +kernel)
theorem dX8_get_23 : decode cX8_get 23 = .ok (.ireturn, 1) := dc_172 (by decide +kernel)
theorem GX8_153 {w : eW} {d : Nat} {Y : eY} {pc : Nat} {ls : eL} {st : List Value} {h : eH} {Q : eO → eH → Prop} {a : Nat} {x : Int32} (hf : g_I 9 h a 6 = some x) (hd : decode Y.2.1 pc = .ok (.getfield 153, 3)) (hY : Y.1.cls = RX8) (kk : wp w d Y (pc + 3) ls (.int x :: st) h Q) : wp w d Y pc ls (.ref a :: st) h Q := x_gIN (ci := 9) (k := 6) hf hd rfl (by decide) (by rw [hY]; exact q708) kk
def fX8_get (N : Nat) (this : Nat) (h : eH) : Option ((Int32 ⊕ Nat) × eH) :=
  (g_A 7 h this 7).bind fun a1 =>
  (k_ok 12 h a1).bind fun _ =>
  t_B (fX13_get N a1 h) fun x4 h5 =>
  (g_A 7 h5 this 4).bind fun a6 =>
  (g_A 7 h5 this 3).bind fun a8 =>
  (g_I 9 h5 a8 6).bind fun x10 =>
  (k_ok 8 h5 a6).bind fun _ =>
  (fX9_reach a6 x10 h5).bind fun q13 =>
  some (.inl x4, q13.2)
theorem pX8_get {w : eW} {d : Nat} (hd : 12 ≤ d) {N : Nat} {this : Nat} {h : eH} {q} (hf : fX8_get N this h = some q) : wm w d YX8_get [.ref this] h (e_is (e_rt c_I q)) := by
  obtain ⟨d, rfl⟩ : ∃ e, d = e + 1 := ⟨d - 1, by omega⟩
  show wp w (d + 1) YX8_get 0 [some (.ref this), none] [] h _
  unfold fX8_get at hf
  refine w_aload_n dX8_get_0 rfl rfl ?_
  obtain ⟨a1, b2, hf⟩ := Option.bind_eq_some_iff.mp hf
  refine GX8_93 b2 dX8_get_1 rfl ?_
  obtain ⟨_, b3, hf⟩ := Option.bind_eq_some_iff.mp hf
  refine x_ctI hf (e_stV (Yc := YX13_get) (ci := 12) (av := []) (st := []) dX8_get_4 q2421 mX13_get rfl (k_ok_some b3).1 (k_ok_some b3).2) mX13_get.2.2.1 mX13_get.2.2.2.2.1 (Nat.le_of_ble_eq_true rfl) (Nat.le_of_ble_eq_true rfl) rfl (fun q hq => pX13_get (by omega) hq) (fun x4 h5 hf => ?_)
  refine w_istore_n dX8_get_7 rfl (by decide) (ls' := [some (.ref this), some (.int x4)]) rfl ?_
  refine w_aload_n dX8_get_8 rfl rfl ?_
  obtain ⟨a6, b7, hf⟩ := Option.bind_eq_some_iff.mp hf
  refine GX8_12 b7 dX8_get_9 rfl ?_
  refine w_aload_n dX8_get_12 rfl rfl ?_
  obtain ⟨a8, b9, hf⟩ := Option.bind_eq_some_iff.mp hf
  refine GX8_68 b9 dX8_get_13 rfl ?_
  obtain ⟨x10, b11, hf⟩ := Option.bind_eq_some_iff.mp hf
  refine GX8_153 b11 dX8_get_16 rfl ?_
  obtain ⟨_, b12, hf⟩ := Option.bind_eq_some_iff.mp hf
  refine x_cnV hf (e_stV (Yc := YX9_reach) (ci := 8) (av := [.int x10]) (st := []) dX8_get_19 q2469 mX9_reach rfl (k_ok_some b12).1 (k_ok_some b12).2) mX9_reach.2.2.1 mX9_reach.2.2.2.2.1 (Nat.le_of_ble_eq_true rfl) (Nat.le_of_ble_eq_true rfl) (fun q hq => pX9_reach (by omega) hq) (fun q13 hf => ?_)
  refine w_iload_n dX8_get_22 rfl rfl ?_
  cases hf
  exact w_iret dX8_get_23 rfl rfl rfl
abbrev cX8_isMarked : ByteArray := prog_4_method_6_code
def yX8_isMarked : MethodName := ⟨RX8, "isMarked", "(I)Z"⟩
def YX8_isMarked : eY := (yX8_isMarked, cX8_isMarked, 1, (Option.some FieldType.boolean), [])
theorem mX8_isMarked : e_ms YX8_isMarked 1 := ⟨q2482, q433, q2483, by decide, by decide +kernel, (e_sig (by decide +kernel))⟩
theorem dX8_isMarked_0 : decode cX8_isMarked 0 = .ok (.iload_n 0, 1) := dc_26 (by decide +kernel)
theorem dX8_isMarked_1 : decode cX8_isMarked 1 = .ok (.ldc 159, 2) := dc_18 (a := 159) (by decide +kernel)
theorem dX8_isMarked_3 : decode cX8_isMarked 3 = .ok (.if_icmp .lt 7, 3) := dc_161 (a := 0) (b := 7) (v := 7) (by decide +kernel)
theorem dX8_isMarked_6 : decode cX8_isMarked 6 = .ok (.iconst 1, 1) := dc_4 (by decide +kernel)
theorem dX8_isMarked_7 : decode cX8_isMarked 7 = .ok (.goto 4, 3) := dc_167 (a := 0) (b := 4) (v := 4) (by decide +kernel)
theorem dX8_isMarked_10 : decode cX8_isMarked 10 = .ok (.iconst 0, 1) := dc_3 (by decide +kernel)
theorem dX8_isMarked_11 : decode cX8_isMarked 11 = .ok (.ireturn, 1) := dc_172 (by decide +kernel)
def fX8_isMarked_b11 (s0 : Int32) (h : eH) : Option (Int32 × eH) :=
  z_r s0 (s0, h)
theorem pX8_isMarked_b11 {w : eW} {d : Nat} (hd : 0 ≤ d) {s0 : Int32} {h : eH} {q} (hf : fX8_isMarked_b11 s0 h = some q) : wp w d YX8_isMarked 11 [none] [.int s0] h (e_is (e_rn c_I q)) := by
  unfold fX8_isMarked_b11 at hf
  obtain ⟨b1, rfl⟩ := z_r_some hf
  exact w_iret dX8_isMarked_11 rfl b1 rfl
def fX8_isMarked (p0 : Int32) (h : eH) : Option (Int32 × eH) :=
  if p0 < (1048576 : Int32) then
    fX8_isMarked_b11 (0 : Int32) h
  else
    fX8_isMarked_b11 (1 : Int32) h
theorem pX8_isMarked {w : eW} {d : Nat} (hd : 0 ≤ d) {p0 : Int32} {h : eH} {q} (hf : fX8_isMarked p0 h = some q) : wm w d YX8_isMarked [.int p0] h (e_is (e_rn c_I q)) := by
  show wp w d YX8_isMarked 0 [some (.int p0)] [] h _
  unfold fX8_isMarked at hf
  refine w_iload_n dX8_isMarked_0 rfl rfl ?_
  refine w_ldc dX8_isMarked_1 q2484 ?_
  refine w_icmp_lt 10 dX8_isMarked_3 (by decide) (fun c1 => ?_) (fun c1 => ?_)
  · replace hf := (if_pos (show p0 < (1048576 : Int32) from c1)).symm.trans hf
    refine w_iconst dX8_isMarked_10 (v := 0) (by decide) ?_
    exact (pX8_isMarked_b11 hd hf).to trivial
  · replace hf := (if_neg (show ¬ (p0 < (1048576 : Int32)) from c1)).symm.trans hf
    refine w_iconst dX8_isMarked_6 (v := 1) (by decide) ?_
    refine w_goto 11 dX8_isMarked_7 (by decide) ?_
    exact (pX8_isMarked_b11 hd hf).to trivial
abbrev cX1_isCharacter : ByteArray := prog_1_method_4_code
def yX1_isCharacter : MethodName := ⟨RX1, "isCharacter", "(I)Z"⟩
def YX1_isCharacter : eY := (yX1_isCharacter, cX1_isCharacter, 1, (Option.some FieldType.boolean), [])
theorem mX1_isCharacter : e_ms YX1_isCharacter 1 := ⟨q2486, q426, q2487, by decide, by decide +kernel, (e_sig (by decide +kernel))⟩
theorem dX1_isCharacter_0 : decode cX1_isCharacter 0 = .ok (.iload_n 0, 1) := dc_26 (by decide +kernel)
theorem dX1_isCharacter_1 : decode cX1_isCharacter 1 = .ok (.ifCond .lt 14, 3) := dc_155 (a := 0) (b := 14) (v := 14) (by decide +kernel)
theorem dX1_isCharacter_4 : decode cX1_isCharacter 4 = .ok (.iload_n 0, 1) := dc_26 (by decide +kernel)
theorem dX1_isCharacter_5 : decode cX1_isCharacter 5 = .ok (.sipush 4096, 3) := dc_17 (a := 16) (b := 0) (v := 4096) (by decide +kernel)
theorem dX1_isCharacter_8 : decode cX1_isCharacter 8 = .ok (.if_icmp .ge 7, 3) := dc_162 (a := 0) (b := 7) (v := 7) (by decide +kernel)
theorem dX1_isCharacter_11 : decode cX1_isCharacter 11 = .ok (.iconst 1, 1) := dc_4 (by decide +kernel)
theorem dX1_isCharacter_12 : decode cX1_isCharacter 12 = .ok (.goto 4, 3) := dc_167 (a := 0) (b := 4) (v := 4) (by decide +kernel)
theorem dX1_isCharacter_15 : decode cX1_isCharacter 15 = .ok (.iconst 0, 1) := dc_3 (by decide +kernel)
theorem dX1_isCharacter_16 : decode cX1_isCharacter 16 = .ok (.ireturn, 1) := dc_172 (by decide +kernel)
def fX1_isCharacter_b16 (s0 : Int32) (h : eH) : Option (Int32 × eH) :=
  z_r s0 (s0, h)
theorem pX1_isCharacter_b16 {w : eW} {d : Nat} (hd : 0 ≤ d) {s0 : Int32} {h : eH} {q} (hf : fX1_isCharacter_b16 s0 h = some q) : wp w d YX1_isCharacter 16 [none] [.int s0] h (e_is (e_rn c_I q)) := by
  unfold fX1_isCharacter_b16 at hf
  obtain ⟨b1, rfl⟩ := z_r_some hf
  exact w_iret dX1_isCharacter_16 rfl b1 rfl
def fX1_isCharacter_b15  (h : eH) : Option (Int32 × eH) :=
  fX1_isCharacter_b16 (0 : Int32) h
theorem pX1_isCharacter_b15 {w : eW} {d : Nat} (hd : 0 ≤ d)  {h : eH} {q} (hf : fX1_isCharacter_b15  h = some q) : wp w d YX1_isCharacter 15 [none] [] h (e_is (e_rn c_I q)) := by
  unfold fX1_isCharacter_b15 at hf
  refine w_iconst dX1_isCharacter_15 (v := 0) (by decide) ?_
  exact (pX1_isCharacter_b16 hd hf).to trivial
def fX1_isCharacter (p0 : Int32) (h : eH) : Option (Int32 × eH) :=
  if p0 < 0 then
    fX1_isCharacter_b15 h
  else
    if (4096 : Int32) ≤ p0 then
      fX1_isCharacter_b15 h
    else
      fX1_isCharacter_b16 (1 : Int32) h
theorem pX1_isCharacter {w : eW} {d : Nat} (hd : 0 ≤ d) {p0 : Int32} {h : eH} {q} (hf : fX1_isCharacter p0 h = some q) : wm w d YX1_isCharacter [.int p0] h (e_is (e_rn c_I q)) := by
  show wp w d YX1_isCharacter 0 [some (.int p0)] [] h _
  unfold fX1_isCharacter at hf
  refine w_iload_n dX1_isCharacter_0 rfl rfl ?_
  refine w_if_lt 15 dX1_isCharacter_1 (by decide) (fun c1 => ?_) (fun c1 => ?_)
  · replace hf := (if_pos (show p0 < 0 from c1)).symm.trans hf
    exact (pX1_isCharacter_b15 hd hf).to trivial
  · replace hf := (if_neg (show ¬ (p0 < 0) from c1)).symm.trans hf
    refine w_iload_n dX1_isCharacter_4 rfl rfl ?_
    refine w_sipush dX1_isCharacter_5 (v := 4096) (by decide) ?_
    refine w_icmp_ge 15 dX1_isCharacter_8 (by decide) (fun c2 => ?_) (fun c2 => ?_)
    · replace hf := (if_pos (show (4096 : Int32) ≤ p0 from c2)).symm.trans hf
      exact (pX1_isCharacter_b15 hd hf).to trivial
    · replace hf := (if_neg (show ¬ ((4096 : Int32) ≤ p0) from c2)).symm.trans hf
      refine w_iconst dX1_isCharacter_11 (v := 1) (by decide) ?_
      refine w_goto 16 dX1_isCharacter_12 (by decide) ?_
      exact (pX1_isCharacter_b16 hd hf).to trivial
abbrev cX8_kind : ByteArray := prog_4_method_8_code
def yX8_kind : MethodName := ⟨RX8, "kind", "(I)I"⟩
def YX8_kind : eY := (yX8_kind, cX8_kind, 2, (Option.some FieldType.int), [])
theorem mX8_kind : e_mv YX8_kind RX8 1 := ⟨q2479, qs49, q2480, by decide, by decide +kernel, (e_sig (by decide +kernel))⟩
theorem dX8_kind_0 : decode cX8_kind 0 = .ok (.iload_n 1, 1) := dc_27 (by decide +kernel)
theorem dX8_kind_1 : decode cX8_kind 1 = .ok (.invokestatic 161, 3) := dc_184 (a := 0) (b := 161) (n := 161) (by decide +kernel)
theorem dX8_kind_4 : decode cX8_kind 4 = .ok (.ifCond .eq 7, 3) := dc_153 (a := 0) (b := 7) (v := 7) (by decide +kernel)
theorem dX8_kind_7 : decode cX8_kind 7 = .ok (.iconst 1, 1) := dc_4 (by decide +kernel)
theorem dX8_kind_8 : decode cX8_kind 8 = .ok (.goto 27, 3) := dc_167 (a := 0) (b := 27) (v := 27) (by decide +kernel)
theorem dX8_kind_11 : decode cX8_kind 11 = .ok (.iload_n 1, 1) := dc_27 (by decide +kernel)
theorem dX8_kind_12 : decode cX8_kind 12 = .ok (.invokestatic 165, 3) := dc_184 (a := 0) (b := 165) (n := 165) (by decide +kernel)
theorem dX8_kind_15 : decode cX8_kind 15 = .ok (.ifCond .eq 7, 3) := dc_153 (a := 0) (b := 7) (v := 7) (by decide +kernel)
theorem dX8_kind_18 : decode cX8_kind 18 = .ok (.iconst 3, 1) := dc_6 (by decide +kernel)
theorem dX8_kind_19 : decode cX8_kind 19 = .ok (.goto 16, 3) := dc_167 (a := 0) (b := 16) (v := 16) (by decide +kernel)
theorem dX8_kind_22 : decode cX8_kind 22 = .ok (.aload_n 0, 1) := dc_42 (by decide +kernel)
theorem dX8_kind_23 : decode cX8_kind 23 = .ok (.getfield 12, 3) := dc_180 (a := 0) (b := 12) (n := 12) (by decide +kernel)
theorem dX8_kind_26 : decode cX8_kind 26 = .ok (.getfield 168, 3) := dc_180 (a := 0) (b := 168) (n := 168) (by decide +kernel)
theorem dX8_kind_29 : decode cX8_kind 29 = .ok (.iload_n 1, 1) := dc_27 (by decide +kernel)
theorem dX8_kind_30 : decode cX8_kind 30 = .ok (.sipush 4096, 3) := dc_17 (a := 16) (b := 0) (v := 4096) (by decide +kernel)
theorem dX8_kind_33 : decode cX8_kind 33 = .ok (.isub, 1) := dc_100 (by decide +kernel)
theorem dX8_kind_34 : decode cX8_kind 34 = .ok (.iaload, 1) := dc_46 (by decide +kernel)
theorem dX8_kind_35 : decode cX8_kind 35 = .ok (.ireturn, 1) := dc_172 (by decide +kernel)
theorem GX8_168 {w : eW} {d : Nat} {Y : eY} {pc : Nat} {ls : eL} {st : List Value} {h : eH} {Q : eO → eH → Prop} {a : Nat} {x : Nat} (hf : g_A 8 h a 0 = some x) (hd : decode Y.2.1 pc = .ok (.getfield 168, 3)) (hY : Y.1.cls = RX8) (kk : wp w d Y (pc + 3) ls (.ref x :: st) h Q) : wp w d Y pc ls (.ref a :: st) h Q := x_gAN (ci := 8) (k := 0) hf hd rfl (by decide) (by rw [hY]; exact q651) kk
def fX8_kind_b35 (s0 : Int32) (h : eH) : Option (Int32 × eH) :=
  some (s0, h)
theorem pX8_kind_b35 {w : eW} {d : Nat} (hd : 1 ≤ d + 1) {s0 : Int32} {h : eH} {q} (hf : fX8_kind_b35 s0 h = some q) : wp w (d + 1) YX8_kind 35 [none, none] [.int s0] h (e_is (e_rn c_I q)) := by
  unfold fX8_kind_b35 at hf
  cases hf
  exact w_iret dX8_kind_35 rfl rfl rfl
def fX8_kind (this : Nat) (p0 : Int32) (h : eH) : Option (Int32 × eH) :=
  (fX8_isMarked p0 h).bind fun q1 =>
  if q1.1 = 0 then
    (fX1_isCharacter p0 q1.2).bind fun q3 =>
    if q3.1 = 0 then
      (g_A 7 q3.2 this 4).bind fun a5 =>
      (g_A 8 q3.2 a5 0).bind fun a7 =>
      (r_I 100 q3.2 a7 (p0 - (4096 : Int32))).bind fun x9 =>
      fX8_kind_b35 x9 q3.2
    else
      fX8_kind_b35 (3 : Int32) q3.2
  else
    fX8_kind_b35 (1 : Int32) q1.2
theorem pX8_kind {w : eW} {d : Nat} (hd : 1 ≤ d) {this : Nat} {p0 : Int32} {h : eH} {q} (hf : fX8_kind this p0 h = some q) : wm w d YX8_kind [.ref this, .int p0] h (e_is (e_rn c_I q)) := by
  obtain ⟨d, rfl⟩ : ∃ e, d = e + 1 := ⟨d - 1, by omega⟩
  show wp w (d + 1) YX8_kind 0 [some (.ref this), some (.int p0)] [] h _
  unfold fX8_kind at hf
  refine w_iload_n dX8_kind_0 rfl rfl ?_
  refine x_cnI hf (e_stS (Yc := YX8_isMarked) (av := [.int p0]) (st := []) dX8_kind_1 q2481 mX8_isMarked) mX8_isMarked.2.2.1 mX8_isMarked.2.2.2.2.1 (Nat.le_of_ble_eq_true rfl) (Nat.le_of_ble_eq_true rfl) (fun q hq => pX8_isMarked (by omega) hq) (fun q1 hf => ?_)
  refine w_if_eq 11 dX8_kind_4 (by decide) (fun c2 => ?_) (fun c2 => ?_)
  · replace hf := (if_pos (show q1.1 = 0 from c2)).symm.trans hf
    refine w_iload_n dX8_kind_11 rfl rfl ?_
    refine x_cnI hf (e_stSN (Yc := YX1_isCharacter) (av := [.int p0]) (st := []) dX8_kind_12 q2485 mX1_isCharacter) mX1_isCharacter.2.2.1 mX1_isCharacter.2.2.2.2.1 (Nat.le_of_ble_eq_true rfl) (Nat.le_of_ble_eq_true rfl) (fun q hq => pX1_isCharacter (by omega) hq) (fun q3 hf => ?_)
    refine w_if_eq 22 dX8_kind_15 (by decide) (fun c4 => ?_) (fun c4 => ?_)
    · replace hf := (if_pos (show q3.1 = 0 from c4)).symm.trans hf
      refine w_aload_n dX8_kind_22 rfl rfl ?_
      obtain ⟨a5, b6, hf⟩ := Option.bind_eq_some_iff.mp hf
      refine GX8_12 b6 dX8_kind_23 rfl ?_
      obtain ⟨a7, b8, hf⟩ := Option.bind_eq_some_iff.mp hf
      refine GX8_168 b8 dX8_kind_26 rfl ?_
      refine w_iload_n dX8_kind_29 rfl rfl ?_
      refine w_sipush dX8_kind_30 (v := 4096) (by decide) ?_
      refine w_isub dX8_kind_33 ?_
      obtain ⟨x9, b10, hf⟩ := Option.bind_eq_some_iff.mp hf
      refine x_rI b10 dX8_kind_34 ?_
      exact (pX8_kind_b35 hd hf).to trivial
    · replace hf := (if_neg (show ¬ (q3.1 = 0) from c4)).symm.trans hf
      refine w_iconst dX8_kind_18 (v := 3) (by decide) ?_
      refine w_goto 35 dX8_kind_19 (by decide) ?_
      exact (pX8_kind_b35 hd hf).to trivial
  · replace hf := (if_neg (show ¬ (q1.1 = 0) from c2)).symm.trans hf
    refine w_iconst dX8_kind_7 (v := 1) (by decide) ?_
    refine w_goto 35 dX8_kind_8 (by decide) ?_
    exact (pX8_kind_b35 hd hf).to trivial
abbrev cX8_value : ByteArray := prog_4_method_9_code
def yX8_value : MethodName := ⟨RX8, "value", "(I)I"⟩
def YX8_value : eY := (yX8_value, cX8_value, 2, (Option.some FieldType.int), [])
theorem mX8_value : e_mv YX8_value RX8 1 := ⟨q2490, qs50, q2491, by decide, by decide +kernel, (e_sig (by decide +kernel))⟩
theorem dX8_value_0 : decode cX8_value 0 = .ok (.iload_n 1, 1) := dc_27 (by decide +kernel)
theorem dX8_value_1 : decode cX8_value 1 = .ok (.invokestatic 161, 3) := dc_184 (a := 0) (b := 161) (n := 161) (by decide +kernel)
theorem dX8_value_4 : decode cX8_value 4 = .ok (.ifCond .eq 8, 3) := dc_153 (a := 0) (b := 8) (v := 8) (by decide +kernel)
theorem dX8_value_7 : decode cX8_value 7 = .ok (.bipush 22, 2) := dc_16 (a := 22) (v := 22) (by decide +kernel)
theorem dX8_value_9 : decode cX8_value 9 = .ok (.goto 27, 3) := dc_167 (a := 0) (b := 27) (v := 27) (by decide +kernel)
theorem dX8_value_12 : decode cX8_value 12 = .ok (.iload_n 1, 1) := dc_27 (by decide +kernel)
theorem dX8_value_13 : decode cX8_value 13 = .ok (.invokestatic 165, 3) := dc_184 (a := 0) (b := 165) (n := 165) (by decide +kernel)
theorem dX8_value_16 : decode cX8_value 16 = .ok (.ifCond .eq 7, 3) := dc_153 (a := 0) (b := 7) (v := 7) (by decide +kernel)
theorem dX8_value_19 : decode cX8_value 19 = .ok (.iload_n 1, 1) := dc_27 (by decide +kernel)
theorem dX8_value_20 : decode cX8_value 20 = .ok (.goto 16, 3) := dc_167 (a := 0) (b := 16) (v := 16) (by decide +kernel)
theorem dX8_value_23 : decode cX8_value 23 = .ok (.aload_n 0, 1) := dc_42 (by decide +kernel)
theorem dX8_value_24 : decode cX8_value 24 = .ok (.getfield 12, 3) := dc_180 (a := 0) (b := 12) (n := 12) (by decide +kernel)
theorem dX8_value_27 : decode cX8_value 27 = .ok (.getfield 171, 3) := dc_180 (a := 0) (b := 171) (n := 171) (by decide +kernel)
theorem dX8_value_30 : decode cX8_value 30 = .ok (.iload_n 1, 1) := dc_27 (by decide +kernel)
theorem dX8_value_31 : decode cX8_value 31 = .ok (.sipush 4096, 3) := dc_17 (a := 16) (b := 0) (v := 4096) (by decide +kernel)
theorem dX8_value_34 : decode cX8_value 34 = .ok (.isub, 1) := dc_100 (by decide +kernel)
theorem dX8_value_35 : decode cX8_value 35 = .ok (.iaload, 1) := dc_46 (by decide +kernel)
theorem dX8_value_36 : decode cX8_value 36 = .ok (.ireturn, 1) := dc_172 (by decide +kernel)
theorem GX8_171 {w : eW} {d : Nat} {Y : eY} {pc : Nat} {ls : eL} {st : List Value} {h : eH} {Q : eO → eH → Prop} {a : Nat} {x : Nat} (hf : g_A 8 h a 1 = some x) (hd : decode Y.2.1 pc = .ok (.getfield 171, 3)) (hY : Y.1.cls = RX8) (kk : wp w d Y (pc + 3) ls (.ref x :: st) h Q) : wp w d Y pc ls (.ref a :: st) h Q := x_gAN (ci := 8) (k := 1) hf hd rfl (by decide) (by rw [hY]; exact q653) kk
def fX8_value_b36 (s0 : Int32) (h : eH) : Option (Int32 × eH) :=
  some (s0, h)
theorem pX8_value_b36 {w : eW} {d : Nat} (hd : 1 ≤ d + 1) {s0 : Int32} {h : eH} {q} (hf : fX8_value_b36 s0 h = some q) : wp w (d + 1) YX8_value 36 [none, none] [.int s0] h (e_is (e_rn c_I q)) := by
  unfold fX8_value_b36 at hf
  cases hf
  exact w_iret dX8_value_36 rfl rfl rfl
def fX8_value (this : Nat) (p0 : Int32) (h : eH) : Option (Int32 × eH) :=
  (fX8_isMarked p0 h).bind fun q1 =>
  if q1.1 = 0 then
    (fX1_isCharacter p0 q1.2).bind fun q3 =>
    if q3.1 = 0 then
      (g_A 7 q3.2 this 4).bind fun a5 =>
      (g_A 8 q3.2 a5 1).bind fun a7 =>
      (r_I 100 q3.2 a7 (p0 - (4096 : Int32))).bind fun x9 =>
      fX8_value_b36 x9 q3.2
    else
      fX8_value_b36 p0 q3.2
  else
    fX8_value_b36 (22 : Int32) q1.2
theorem pX8_value {w : eW} {d : Nat} (hd : 1 ≤ d) {this : Nat} {p0 : Int32} {h : eH} {q} (hf : fX8_value this p0 h = some q) : wm w d YX8_value [.ref this, .int p0] h (e_is (e_rn c_I q)) := by
  obtain ⟨d, rfl⟩ : ∃ e, d = e + 1 := ⟨d - 1, by omega⟩
  show wp w (d + 1) YX8_value 0 [some (.ref this), some (.int p0)] [] h _
  unfold fX8_value at hf
  refine w_iload_n dX8_value_0 rfl rfl ?_
  refine x_cnI hf (e_stS (Yc := YX8_isMarked) (av := [.int p0]) (st := []) dX8_value_1 q2481 mX8_isMarked) mX8_isMarked.2.2.1 mX8_isMarked.2.2.2.2.1 (Nat.le_of_ble_eq_true rfl) (Nat.le_of_ble_eq_true rfl) (fun q hq => pX8_isMarked (by omega) hq) (fun q1 hf => ?_)
  refine w_if_eq 12 dX8_value_4 (by decide) (fun c2 => ?_) (fun c2 => ?_)
  · replace hf := (if_pos (show q1.1 = 0 from c2)).symm.trans hf
    refine w_iload_n dX8_value_12 rfl rfl ?_
    refine x_cnI hf (e_stSN (Yc := YX1_isCharacter) (av := [.int p0]) (st := []) dX8_value_13 q2485 mX1_isCharacter) mX1_isCharacter.2.2.1 mX1_isCharacter.2.2.2.2.1 (Nat.le_of_ble_eq_true rfl) (Nat.le_of_ble_eq_true rfl) (fun q hq => pX1_isCharacter (by omega) hq) (fun q3 hf => ?_)
    refine w_if_eq 23 dX8_value_16 (by decide) (fun c4 => ?_) (fun c4 => ?_)
    · replace hf := (if_pos (show q3.1 = 0 from c4)).symm.trans hf
      refine w_aload_n dX8_value_23 rfl rfl ?_
      obtain ⟨a5, b6, hf⟩ := Option.bind_eq_some_iff.mp hf
      refine GX8_12 b6 dX8_value_24 rfl ?_
      obtain ⟨a7, b8, hf⟩ := Option.bind_eq_some_iff.mp hf
      refine GX8_171 b8 dX8_value_27 rfl ?_
      refine w_iload_n dX8_value_30 rfl rfl ?_
      refine w_sipush dX8_value_31 (v := 4096) (by decide) ?_
      refine w_isub dX8_value_34 ?_
      obtain ⟨x9, b10, hf⟩ := Option.bind_eq_some_iff.mp hf
      refine x_rI b10 dX8_value_35 ?_
      exact (pX8_value_b36 hd hf).to trivial
    · replace hf := (if_neg (show ¬ (q3.1 = 0) from c4)).symm.trans hf
      refine w_iload_n dX8_value_19 rfl rfl ?_
      refine w_goto 36 dX8_value_20 (by decide) ?_
      exact (pX8_value_b36 hd hf).to trivial
  · replace hf := (if_neg (show ¬ (q1.1 = 0) from c2)).symm.trans hf
    refine w_bipush dX8_value_7 (v := 22) (by decide) ?_
    refine w_goto 36 dX8_value_9 (by decide) ?_
    exact (pX8_value_b36 hd hf).to trivial
abbrev cX8_isExpandable : ByteArray := prog_4_method_11_code
def yX8_isExpandable : MethodName := ⟨RX8, "isExpandable", "(I)Z"⟩
def YX8_isExpandable : eY := (yX8_isExpandable, cX8_isExpandable, 3, (Option.some FieldType.boolean), [])
theorem mX8_isExpandable : e_mv YX8_isExpandable RX8 1 := ⟨q2475, qs48, q2476, by decide, by decide +kernel, (e_sig (by decide +kernel))⟩
theorem dX8_isExpandable_0 : decode cX8_isExpandable 0 = .ok (.iload_n 1, 1) := dc_27 (by decide +kernel)
theorem dX8_isExpandable_1 : decode cX8_isExpandable 1 = .ok (.iconst (-1), 1) := dc_2 (by decide +kernel)
theorem dX8_isExpandable_2 : decode cX8_isExpandable 2 = .ok (.if_icmp .ne 5, 3) := dc_160 (a := 0) (b := 5) (v := 5) (by decide +kernel)
theorem dX8_isExpandable_5 : decode cX8_isExpandable 5 = .ok (.iconst 0, 1) := dc_3 (by decide +kernel)
theorem dX8_isExpandable_6 : decode cX8_isExpandable 6 = .ok (.ireturn, 1) := dc_172 (by decide +kernel)
theorem dX8_isExpandable_7 : decode cX8_isExpandable 7 = .ok (.aload_n 0, 1) := dc_42 (by decide +kernel)
theorem dX8_isExpandable_8 : decode cX8_isExpandable 8 = .ok (.iload_n 1, 1) := dc_27 (by decide +kernel)
theorem dX8_isExpandable_9 : decode cX8_isExpandable 9 = .ok (.invokevirtual 174, 3) := dc_182 (a := 0) (b := 174) (n := 174) (by decide +kernel)
theorem dX8_isExpandable_12 : decode cX8_isExpandable 12 = .ok (.istore_n 2, 1) := dc_61 (by decide +kernel)
theorem dX8_isExpandable_13 : decode cX8_isExpandable 13 = .ok (.iload_n 2, 1) := dc_28 (by decide +kernel)
theorem dX8_isExpandable_14 : decode cX8_isExpandable 14 = .ok (.iconst 2, 1) := dc_5 (by decide +kernel)
theorem dX8_isExpandable_15 : decode cX8_isExpandable 15 = .ok (.if_icmp .eq 18, 3) := dc_159 (a := 0) (b := 18) (v := 18) (by decide +kernel)
theorem dX8_isExpandable_18 : decode cX8_isExpandable 18 = .ok (.iload_n 2, 1) := dc_28 (by decide +kernel)
theorem dX8_isExpandable_19 : decode cX8_isExpandable 19 = .ok (.iconst 1, 1) := dc_4 (by decide +kernel)
theorem dX8_isExpandable_20 : decode cX8_isExpandable 20 = .ok (.if_icmp .ne 17, 3) := dc_160 (a := 0) (b := 17) (v := 17) (by decide +kernel)
theorem dX8_isExpandable_23 : decode cX8_isExpandable 23 = .ok (.aload_n 0, 1) := dc_42 (by decide +kernel)
theorem dX8_isExpandable_24 : decode cX8_isExpandable 24 = .ok (.iload_n 1, 1) := dc_27 (by decide +kernel)
theorem dX8_isExpandable_25 : decode cX8_isExpandable 25 = .ok (.invokevirtual 178, 3) := dc_182 (a := 0) (b := 178) (n := 178) (by decide +kernel)
theorem dX8_isExpandable_28 : decode cX8_isExpandable 28 = .ok (.bipush 22, 2) := dc_16 (a := 22) (v := 22) (by decide +kernel)
theorem dX8_isExpandable_30 : decode cX8_isExpandable 30 = .ok (.if_icmp .ge 7, 3) := dc_162 (a := 0) (b := 7) (v := 7) (by decide +kernel)
theorem dX8_isExpandable_33 : decode cX8_isExpandable 33 = .ok (.iconst 1, 1) := dc_4 (by decide +kernel)
theorem dX8_isExpandable_34 : decode cX8_isExpandable 34 = .ok (.goto 4, 3) := dc_167 (a := 0) (b := 4) (v := 4) (by decide +kernel)
theorem dX8_isExpandable_37 : decode cX8_isExpandable 37 = .ok (.iconst 0, 1) := dc_3 (by decide +kernel)
theorem dX8_isExpandable_38 : decode cX8_isExpandable 38 = .ok (.ireturn, 1) := dc_172 (by decide +kernel)
def fX8_isExpandable_b38 (s0 : Int32) (h : eH) : Option (Int32 × eH) :=
  z_r s0 (s0, h)
theorem pX8_isExpandable_b38 {w : eW} {d : Nat} (hd : 2 ≤ d + 1) {s0 : Int32} {h : eH} {q} (hf : fX8_isExpandable_b38 s0 h = some q) : wp w (d + 1) YX8_isExpandable 38 [none, none, none] [.int s0] h (e_is (e_rn c_I q)) := by
  unfold fX8_isExpandable_b38 at hf
  obtain ⟨b1, rfl⟩ := z_r_some hf
  exact w_iret dX8_isExpandable_38 rfl b1 rfl
def fX8_isExpandable_b33  (h : eH) : Option (Int32 × eH) :=
  fX8_isExpandable_b38 (1 : Int32) h
theorem pX8_isExpandable_b33 {w : eW} {d : Nat} (hd : 2 ≤ d + 1)  {h : eH} {q} (hf : fX8_isExpandable_b33  h = some q) : wp w (d + 1) YX8_isExpandable 33 [none, none, none] [] h (e_is (e_rn c_I q)) := by
  unfold fX8_isExpandable_b33 at hf
  refine w_iconst dX8_isExpandable_33 (v := 1) (by decide) ?_
  refine w_goto 38 dX8_isExpandable_34 (by decide) ?_
  exact (pX8_isExpandable_b38 hd hf).to trivial
def fX8_isExpandable_b37  (h : eH) : Option (Int32 × eH) :=
  fX8_isExpandable_b38 (0 : Int32) h
theorem pX8_isExpandable_b37 {w : eW} {d : Nat} (hd : 2 ≤ d + 1)  {h : eH} {q} (hf : fX8_isExpandable_b37  h = some q) : wp w (d + 1) YX8_isExpandable 37 [none, none, none] [] h (e_is (e_rn c_I q)) := by
  unfold fX8_isExpandable_b37 at hf
  refine w_iconst dX8_isExpandable_37 (v := 0) (by decide) ?_
  exact (pX8_isExpandable_b38 hd hf).to trivial
def fX8_isExpandable (this : Nat) (p0 : Int32) (h : eH) : Option (Int32 × eH) :=
  if ¬ p0 = (-1 : Int32) then
    (k_ok 7 h this).bind fun _ =>
    (fX8_kind this p0 h).bind fun q3 =>
    if q3.1 = (2 : Int32) then
      fX8_isExpandable_b33 q3.2
    else
      if ¬ q3.1 = (1 : Int32) then
        fX8_isExpandable_b37 q3.2
      else
        (k_ok 7 q3.2 this).bind fun _ =>
        (fX8_value this p0 q3.2).bind fun q7 =>
        if (22 : Int32) ≤ q7.1 then
          fX8_isExpandable_b37 q7.2
        else
          fX8_isExpandable_b33 q7.2
  else
    some ((0 : Int32), h)
theorem pX8_isExpandable {w : eW} {d : Nat} (hd : 2 ≤ d) {this : Nat} {p0 : Int32} {h : eH} {q} (hf : fX8_isExpandable this p0 h = some q) : wm w d YX8_isExpandable [.ref this, .int p0] h (e_is (e_rn c_I q)) := by
  obtain ⟨d, rfl⟩ : ∃ e, d = e + 1 := ⟨d - 1, by omega⟩
  show wp w (d + 1) YX8_isExpandable 0 [some (.ref this), some (.int p0), none] [] h _
  unfold fX8_isExpandable at hf
  refine w_iload_n dX8_isExpandable_0 rfl rfl ?_
  refine w_iconst dX8_isExpandable_1 (v := -1) (by decide) ?_
  refine w_icmp_ne 7 dX8_isExpandable_2 (by decide) (fun c1 => ?_) (fun c1 => ?_)
  · replace hf := (if_pos (show ¬ p0 = (-1 : Int32) from c1)).symm.trans hf
    refine w_aload_n dX8_isExpandable_7 rfl rfl ?_
    refine w_iload_n dX8_isExpandable_8 rfl rfl ?_
    obtain ⟨_, b2, hf⟩ := Option.bind_eq_some_iff.mp hf
    refine x_cnI hf (e_stV (Yc := YX8_kind) (ci := 7) (av := [.int p0]) (st := []) dX8_isExpandable_9 q2477 mX8_kind rfl (k_ok_some b2).1 (k_ok_some b2).2) mX8_kind.2.2.1 mX8_kind.2.2.2.2.1 (Nat.le_of_ble_eq_true rfl) (Nat.le_of_ble_eq_true rfl) (fun q hq => pX8_kind (by omega) hq) (fun q3 hf => ?_)
    refine w_istore_n dX8_isExpandable_12 rfl (by decide) (ls' := [some (.ref this), some (.int p0), some (.int q3.1)]) rfl ?_
    refine w_iload_n dX8_isExpandable_13 rfl rfl ?_
    refine w_iconst dX8_isExpandable_14 (v := 2) (by decide) ?_
    refine w_icmp_eq 33 dX8_isExpandable_15 (by decide) (fun c4 => ?_) (fun c4 => ?_)
    · replace hf := (if_pos (show q3.1 = (2 : Int32) from c4)).symm.trans hf
      exact (pX8_isExpandable_b33 hd hf).to trivial
    · replace hf := (if_neg (show ¬ (q3.1 = (2 : Int32)) from c4)).symm.trans hf
      refine w_iload_n dX8_isExpandable_18 rfl rfl ?_
      refine w_iconst dX8_isExpandable_19 (v := 1) (by decide) ?_
      refine w_icmp_ne 37 dX8_isExpandable_20 (by decide) (fun c5 => ?_) (fun c5 => ?_)
      · replace hf := (if_pos (show ¬ q3.1 = (1 : Int32) from c5)).symm.trans hf
        exact (pX8_isExpandable_b37 hd hf).to trivial
      · replace hf := (if_neg (show ¬ (¬ q3.1 = (1 : Int32)) from (fun z => z c5))).symm.trans hf
        refine w_aload_n dX8_isExpandable_23 rfl rfl ?_
        refine w_iload_n dX8_isExpandable_24 rfl rfl ?_
        obtain ⟨_, b6, hf⟩ := Option.bind_eq_some_iff.mp hf
        refine x_cnI hf (e_stV (Yc := YX8_value) (ci := 7) (av := [.int p0]) (st := []) dX8_isExpandable_25 q2488 mX8_value rfl (k_ok_some b6).1 (k_ok_some b6).2) mX8_value.2.2.1 mX8_value.2.2.2.2.1 (Nat.le_of_ble_eq_true rfl) (Nat.le_of_ble_eq_true rfl) (fun q hq => pX8_value (by omega) hq) (fun q7 hf => ?_)
        refine w_bipush dX8_isExpandable_28 (v := 22) (by decide) ?_
        refine w_icmp_ge 37 dX8_isExpandable_30 (by decide) (fun c8 => ?_) (fun c8 => ?_)
        · replace hf := (if_pos (show (22 : Int32) ≤ q7.1 from c8)).symm.trans hf
          exact (pX8_isExpandable_b37 hd hf).to trivial
        · replace hf := (if_neg (show ¬ ((22 : Int32) ≤ q7.1) from c8)).symm.trans hf
          exact (pX8_isExpandable_b33 hd hf).to trivial
  · replace hf := (if_neg (show ¬ (¬ p0 = (-1 : Int32)) from (fun z => z c1))).symm.trans hf
    refine w_iconst dX8_isExpandable_5 (v := 0) (by decide) ?_
    cases hf
    exact w_iret dX8_isExpandable_6 rfl rfl rfl
abbrev cX8_expand : ByteArray := prog_4_method_16_code
def yX8_expand : MethodName := ⟨RX8, "expand", "(I)V"⟩
def YX8_expand : eY := (yX8_expand, cX8_expand, 2, none, [])
theorem mX8_expand : e_mv YX8_expand RX8 1 := ⟨q2494, qs51, q2495, by decide, by decide +kernel, (e_sig (by decide +kernel))⟩
theorem dX8_expand_0 : decode cX8_expand 0 = .ok (.aload_n 0, 1) := dc_42 (by decide +kernel)
theorem dX8_expand_1 : decode cX8_expand 1 = .ok (.invokevirtual 200, 3) := dc_182 (a := 0) (b := 200) (n := 200) (by decide +kernel)
theorem dX8_expand_4 : decode cX8_expand 4 = .ok (.aload_n 0, 1) := dc_42 (by decide +kernel)
theorem dX8_expand_5 : decode cX8_expand 5 = .ok (.getfield 51, 3) := dc_180 (a := 0) (b := 51) (n := 51) (by decide +kernel)
theorem dX8_expand_8 : decode cX8_expand 8 = .ok (.aload_n 0, 1) := dc_42 (by decide +kernel)
theorem dX8_expand_9 : decode cX8_expand 9 = .ok (.getfield 125, 3) := dc_180 (a := 0) (b := 125) (n := 125) (by decide +kernel)
theorem dX8_expand_12 : decode cX8_expand 12 = .ok (.bipush 40, 2) := dc_16 (a := 40) (v := 40) (by decide +kernel)
theorem dX8_expand_14 : decode cX8_expand 14 = .ok (.if_icmp .ge 7, 3) := dc_162 (a := 0) (b := 7) (v := 7) (by decide +kernel)
theorem dX8_expand_17 : decode cX8_expand 17 = .ok (.iconst 1, 1) := dc_4 (by decide +kernel)
theorem dX8_expand_18 : decode cX8_expand 18 = .ok (.goto 4, 3) := dc_167 (a := 0) (b := 4) (v := 4) (by decide +kernel)
theorem dX8_expand_21 : decode cX8_expand 21 = .ok (.iconst 0, 1) := dc_3 (by decide +kernel)
theorem dX8_expand_22 : decode cX8_expand 22 = .ok (.iconst 3, 1) := dc_6 (by decide +kernel)
theorem dX8_expand_23 : decode cX8_expand 23 = .ok (.invokevirtual 145, 3) := dc_182 (a := 0) (b := 145) (n := 145) (by decide +kernel)
theorem dX8_expand_26 : decode cX8_expand 26 = .ok (.aload_n 0, 1) := dc_42 (by decide +kernel)
theorem dX8_expand_27 : decode cX8_expand 27 = .ok (.dup, 1) := dc_89 (by decide +kernel)
theorem dX8_expand_28 : decode cX8_expand 28 = .ok (.getfield 125, 3) := dc_180 (a := 0) (b := 125) (n := 125) (by decide +kernel)
theorem dX8_expand_31 : decode cX8_expand 31 = .ok (.iconst 1, 1) := dc_4 (by decide +kernel)
theorem dX8_expand_32 : decode cX8_expand 32 = .ok (.iadd, 1) := dc_96 (by decide +kernel)
theorem dX8_expand_33 : decode cX8_expand 33 = .ok (.putfield 125, 3) := dc_181 (a := 0) (b := 125) (n := 125) (by decide +kernel)
theorem dX8_expand_36 : decode cX8_expand 36 = .ok (.aload_n 0, 1) := dc_42 (by decide +kernel)
theorem dX8_expand_37 : decode cX8_expand 37 = .ok (.iload_n 1, 1) := dc_27 (by decide +kernel)
theorem dX8_expand_38 : decode cX8_expand 38 = .ok (.invokevirtual 174, 3) := dc_182 (a := 0) (b := 174) (n := 174) (by decide +kernel)
theorem dX8_expand_41 : decode cX8_expand 41 = .ok (.iconst 2, 1) := dc_5 (by decide +kernel)
theorem dX8_expand_42 : decode cX8_expand 42 = .ok (.if_icmp .ne 15, 3) := dc_160 (a := 0) (b := 15) (v := 15) (by decide +kernel)
theorem dX8_expand_45 : decode cX8_expand 45 = .ok (.aload_n 0, 1) := dc_42 (by decide +kernel)
theorem dX8_expand_46 : decode cX8_expand 46 = .ok (.aload_n 0, 1) := dc_42 (by decide +kernel)
theorem dX8_expand_47 : decode cX8_expand 47 = .ok (.iload_n 1, 1) := dc_27 (by decide +kernel)
theorem dX8_expand_48 : decode cX8_expand 48 = .ok (.invokevirtual 178, 3) := dc_182 (a := 0) (b := 178) (n := 178) (by decide +kernel)
theorem dX8_expand_51 : decode cX8_expand 51 = .ok (.invokevirtual 203, 3) := dc_182 (a := 0) (b := 203) (n := 203) (by decide +kernel)
theorem dX8_expand_54 : decode cX8_expand 54 = .ok (.goto 13, 3) := dc_167 (a := 0) (b := 13) (v := 13) (by decide +kernel)
theorem dX8_expand_57 : decode cX8_expand 57 = .ok (.aload_n 0, 1) := dc_42 (by decide +kernel)
theorem dX8_expand_58 : decode cX8_expand 58 = .ok (.iload_n 1, 1) := dc_27 (by decide +kernel)
theorem dX8_expand_59 : decode cX8_expand 59 = .ok (.aload_n 0, 1) := dc_42 (by decide +kernel)
theorem dX8_expand_60 : decode cX8_expand 60 = .ok (.iload_n 1, 1) := dc_27 (by decide +kernel)
theorem dX8_expand_61 : decode cX8_expand 61 = .ok (.invokevirtual 178, 3) := dc_182 (a := 0) (b := 178) (n := 178) (by decide +kernel)
theorem dX8_expand_64 : decode cX8_expand 64 = .ok (.invokevirtual 206, 3) := dc_182 (a := 0) (b := 206) (n := 206) (by decide +kernel)
theorem dX8_expand_67 : decode cX8_expand 67 = .ok (.aload_n 0, 1) := dc_42 (by decide +kernel)
theorem dX8_expand_68 : decode cX8_expand 68 = .ok (.dup, 1) := dc_89 (by decide +kernel)
theorem dX8_expand_69 : decode cX8_expand 69 = .ok (.getfield 125, 3) := dc_180 (a := 0) (b := 125) (n := 125) (by decide +kernel)
theorem dX8_expand_72 : decode cX8_expand 72 = .ok (.iconst 1, 1) := dc_4 (by decide +kernel)
theorem dX8_expand_73 : decode cX8_expand 73 = .ok (.isub, 1) := dc_100 (by decide +kernel)
theorem dX8_expand_74 : decode cX8_expand 74 = .ok (.putfield 125, 3) := dc_181 (a := 0) (b := 125) (n := 125) (by decide +kernel)
theorem dX8_expand_77 : decode cX8_expand 77 = .ok (.aload_n 0, 1) := dc_42 (by decide +kernel)
theorem dX8_expand_78 : decode cX8_expand 78 = .ok (.getfield 51, 3) := dc_180 (a := 0) (b := 51) (n := 51) (by decide +kernel)
theorem dX8_expand_81 : decode cX8_expand 81 = .ok (.aload_n 0, 1) := dc_42 (by decide +kernel)
theorem dX8_expand_82 : decode cX8_expand 82 = .ok (.getfield 93, 3) := dc_180 (a := 0) (b := 93) (n := 93) (by decide +kernel)
theorem dX8_expand_85 : decode cX8_expand 85 = .ok (.getfield 210, 3) := dc_180 (a := 0) (b := 210) (n := 210) (by decide +kernel)
theorem dX8_expand_88 : decode cX8_expand 88 = .ok (.sipush 10000, 3) := dc_17 (a := 39) (b := 16) (v := 10000) (by decide +kernel)
theorem dX8_expand_91 : decode cX8_expand 91 = .ok (.if_icmp .gt 7, 3) := dc_163 (a := 0) (b := 7) (v := 7) (by decide +kernel)
theorem dX8_expand_94 : decode cX8_expand 94 = .ok (.iconst 1, 1) := dc_4 (by decide +kernel)
theorem dX8_expand_95 : decode cX8_expand 95 = .ok (.goto 4, 3) := dc_167 (a := 0) (b := 4) (v := 4) (by decide +kernel)
theorem dX8_expand_98 : decode cX8_expand 98 = .ok (.iconst 0, 1) := dc_3 (by decide +kernel)
theorem dX8_expand_99 : decode cX8_expand 99 = .ok (.iconst 2, 1) := dc_5 (by decide +kernel)
theorem dX8_expand_100 : decode cX8_expand 100 = .ok (.invokevirtual 145, 3) := dc_182 (a := 0) (b := 145) (n := 145) (by decide +kernel)
theorem dX8_expand_103 : decode cX8_expand 103 = .ok (.return_, 1) := dc_177 (by decide +kernel)
abbrev cX8_getExpanded : ByteArray := prog_4_method_12_code
def yX8_getExpanded : MethodName := ⟨RX8, "getExpanded", "()I"⟩
def YX8_getExpanded : eY := (yX8_getExpanded, cX8_getExpanded, 2, (Option.some FieldType.int), [])
theorem mX8_getExpanded : e_mv YX8_getExpanded RX8 0 := ⟨q2415, qs42, q2416, by decide, by decide +kernel, (e_sig (by decide +kernel))⟩
theorem dX8_getExpanded_0 : decode cX8_getExpanded 0 = .ok (.aload_n 0, 1) := dc_42 (by decide +kernel)
theorem dX8_getExpanded_1 : decode cX8_getExpanded 1 = .ok (.invokevirtual 158, 3) := dc_182 (a := 0) (b := 158) (n := 158) (by decide +kernel)
theorem dX8_getExpanded_4 : decode cX8_getExpanded 4 = .ok (.istore_n 1, 1) := dc_60 (by decide +kernel)
theorem dX8_getExpanded_5 : decode cX8_getExpanded 5 = .ok (.aload_n 0, 1) := dc_42 (by decide +kernel)
theorem dX8_getExpanded_6 : decode cX8_getExpanded 6 = .ok (.iload_n 1, 1) := dc_27 (by decide +kernel)
theorem dX8_getExpanded_7 : decode cX8_getExpanded 7 = .ok (.invokevirtual 181, 3) := dc_182 (a := 0) (b := 181) (n := 181) (by decide +kernel)
theorem dX8_getExpanded_10 : decode cX8_getExpanded 10 = .ok (.ifCond .eq 16, 3) := dc_153 (a := 0) (b := 16) (v := 16) (by decide +kernel)
theorem dX8_getExpanded_13 : decode cX8_getExpanded 13 = .ok (.aload_n 0, 1) := dc_42 (by decide +kernel)
theorem dX8_getExpanded_14 : decode cX8_getExpanded 14 = .ok (.iload_n 1, 1) := dc_27 (by decide +kernel)
theorem dX8_getExpanded_15 : decode cX8_getExpanded 15 = .ok (.invokevirtual 184, 3) := dc_182 (a := 0) (b := 184) (n := 184) (by decide +kernel)
theorem dX8_getExpanded_18 : decode cX8_getExpanded 18 = .ok (.aload_n 0, 1) := dc_42 (by decide +kernel)
theorem dX8_getExpanded_19 : decode cX8_getExpanded 19 = .ok (.invokevirtual 158, 3) := dc_182 (a := 0) (b := 158) (n := 158) (by decide +kernel)
theorem dX8_getExpanded_22 : decode cX8_getExpanded 22 = .ok (.istore_n 1, 1) := dc_60 (by decide +kernel)
theorem dX8_getExpanded_23 : decode cX8_getExpanded 23 = .ok (.goto (-18), 3) := dc_167 (a := 255) (b := 238) (v := -18) (by decide +kernel)
theorem dX8_getExpanded_26 : decode cX8_getExpanded 26 = .ok (.iload_n 1, 1) := dc_27 (by decide +kernel)
theorem dX8_getExpanded_27 : decode cX8_getExpanded 27 = .ok (.ireturn, 1) := dc_172 (by decide +kernel)
def fX8_getExpanded_b5 (N : Nat) (rE : Nat → Int32 → eH → Option ((Unit ⊕ Nat) × eH)) : Nat → Nat → Int32 → eH → Option ((Int32 ⊕ Nat) × eH)
  | 0, _, _, _ => none
  | n + 1, l0, l1, h =>
    (k_ok 7 h l0).bind fun _ =>
    (fX8_isExpandable l0 l1 h).bind fun q2 =>
    if q2.1 = 0 then
      some (.inl l1, q2.2)
    else
      (k_ok 7 q2.2 l0).bind fun _ =>
      t_B (rE l0 l1 q2.2) fun x5 h6 =>
      (k_ok 7 h6 l0).bind fun _ =>
      t_B (fX8_get N l0 h6) fun x8 h9 =>
      fX8_getExpanded_b5 N rE n l0 x8 h9
theorem pX8_getExpanded_b5 {w : eW} {d : Nat} {dr : Nat} (hd : dr + 13 ≤ d + 1) (hdr : 12 ≤ dr) {N : Nat} {rE : Nat → Int32 → eH → Option ((Unit ⊕ Nat) × eH)} (hrE : ∀ a t0 h q, rE a t0 h = some q → wm w dr YX8_expand [.ref a, .int t0] h (e_is (e_rt c_V q))) : ∀ (n : Nat) l0 l1 h q, fX8_getExpanded_b5 N rE n l0 l1 h = some q → wp w (d + 1) YX8_getExpanded 5 [some (.ref l0), some (.int l1)] [] h (e_is (e_rt c_I q)) := by
  intro n
  induction n with
  | zero => intro l0 l1 h q hf; simp [fX8_getExpanded_b5] at hf
  | succ n ih =>
    intro l0 l1 h q hf
    rw [fX8_getExpanded_b5] at hf
    refine w_aload_n dX8_getExpanded_5 rfl rfl ?_
    refine w_iload_n dX8_getExpanded_6 rfl rfl ?_
    obtain ⟨_, b1, hf⟩ := Option.bind_eq_some_iff.mp hf
    refine x_cnI hf (e_stV (Yc := YX8_isExpandable) (ci := 7) (av := [.int l1]) (st := []) dX8_getExpanded_7 q2473 mX8_isExpandable rfl (k_ok_some b1).1 (k_ok_some b1).2) mX8_isExpandable.2.2.1 mX8_isExpandable.2.2.2.2.1 (Nat.le_of_ble_eq_true rfl) (Nat.le_of_ble_eq_true rfl) (fun q hq => pX8_isExpandable (by omega) hq) (fun q2 hf => ?_)
    refine w_if_eq 26 dX8_getExpanded_10 (by decide) (fun c3 => ?_) (fun c3 => ?_)
    · replace hf := (if_pos (show q2.1 = 0 from c3)).symm.trans hf
      refine w_iload_n dX8_getExpanded_26 rfl rfl ?_
      cases hf
      exact w_iret dX8_getExpanded_27 rfl rfl rfl
    · replace hf := (if_neg (show ¬ (q2.1 = 0) from c3)).symm.trans hf
      refine w_aload_n dX8_getExpanded_13 rfl rfl ?_
      refine w_iload_n dX8_getExpanded_14 rfl rfl ?_
      obtain ⟨_, b4, hf⟩ := Option.bind_eq_some_iff.mp hf
      refine x_ctV hf (e_stV (Yc := YX8_expand) (ci := 7) (av := [.int l1]) (st := []) dX8_getExpanded_15 q2492 mX8_expand rfl (k_ok_some b4).1 (k_ok_some b4).2) mX8_expand.2.2.1 mX8_expand.2.2.2.2.1 (Nat.le_of_ble_eq_true rfl) (Nat.le_of_ble_eq_true rfl) rfl (fun q hq => (hrE _ _ _ _ hq).up (by omega)) (fun x5 h6 hf => ?_)
      refine w_aload_n dX8_getExpanded_18 rfl rfl ?_
      obtain ⟨_, b7, hf⟩ := Option.bind_eq_some_iff.mp hf
      refine x_ctI hf (e_stV (Yc := YX8_get) (ci := 7) (av := []) (st := []) dX8_getExpanded_19 q2417 mX8_get rfl (k_ok_some b7).1 (k_ok_some b7).2) mX8_get.2.2.1 mX8_get.2.2.2.2.1 (Nat.le_of_ble_eq_true rfl) (Nat.le_of_ble_eq_true rfl) rfl (fun q hq => pX8_get (by omega) hq) (fun x8 h9 hf => ?_)
      refine w_istore_n dX8_getExpanded_22 rfl (by decide) (ls' := [some (.ref l0), some (.int x8)]) rfl ?_
      refine w_goto 5 dX8_getExpanded_23 (by decide) ?_
      exact (ih _ _ _ _ hf).to ⟨rfl, rfl, trivial⟩
def fX8_getExpanded (N : Nat) (rE : Nat → Int32 → eH → Option ((Unit ⊕ Nat) × eH)) (this : Nat) (h : eH) : Option ((Int32 ⊕ Nat) × eH) :=
  (k_ok 7 h this).bind fun _ =>
  t_B (fX8_get N this h) fun x2 h3 =>
  fX8_getExpanded_b5 N rE N this x2 h3
theorem pX8_getExpanded {w : eW} {d : Nat} {dr : Nat} (hd : dr + 13 ≤ d) (hdr : 12 ≤ dr) {N : Nat} {rE : Nat → Int32 → eH → Option ((Unit ⊕ Nat) × eH)} (hrE : ∀ a t0 h q, rE a t0 h = some q → wm w dr YX8_expand [.ref a, .int t0] h (e_is (e_rt c_V q))) {this : Nat} {h : eH} {q} (hf : fX8_getExpanded N rE this h = some q) : wm w d YX8_getExpanded [.ref this] h (e_is (e_rt c_I q)) := by
  obtain ⟨d, rfl⟩ : ∃ e, d = e + 1 := ⟨d - 1, by omega⟩
  show wp w (d + 1) YX8_getExpanded 0 [some (.ref this), none] [] h _
  unfold fX8_getExpanded at hf
  refine w_aload_n dX8_getExpanded_0 rfl rfl ?_
  obtain ⟨_, b1, hf⟩ := Option.bind_eq_some_iff.mp hf
  refine x_ctI hf (e_stV (Yc := YX8_get) (ci := 7) (av := []) (st := []) dX8_getExpanded_1 q2417 mX8_get rfl (k_ok_some b1).1 (k_ok_some b1).2) mX8_get.2.2.1 mX8_get.2.2.2.2.1 (Nat.le_of_ble_eq_true rfl) (Nat.le_of_ble_eq_true rfl) rfl (fun q hq => pX8_get (by omega) hq) (fun x2 h3 hf => ?_)
  refine w_istore_n dX8_getExpanded_4 rfl (by decide) (ls' := [some (.ref this), some (.int x2)]) rfl ?_
  exact (pX8_getExpanded_b5 hd hdr hrE N _ _ _ _ hf).to ⟨rfl, rfl, trivial⟩
abbrev cX8_tick : ByteArray := prog_4_method_3_code
def yX8_tick : MethodName := ⟨RX8, "tick", "()V"⟩
def YX8_tick : eY := (yX8_tick, cX8_tick, 1, none, [])
theorem mX8_tick : e_mv YX8_tick RX8 0 := ⟨q2498, qs52, q2499, by decide, by decide +kernel, (e_sig (by decide +kernel))⟩
theorem dX8_tick_0 : decode cX8_tick 0 = .ok (.aload_n 0, 1) := dc_42 (by decide +kernel)
theorem dX8_tick_1 : decode cX8_tick 1 = .ok (.dup, 1) := dc_89 (by decide +kernel)
theorem dX8_tick_2 : decode cX8_tick 2 = .ok (.getfield 122, 3) := dc_180 (a := 0) (b := 122) (n := 122) (by decide +kernel)
theorem dX8_tick_5 : decode cX8_tick 5 = .ok (.iconst 1, 1) := dc_4 (by decide +kernel)
theorem dX8_tick_6 : decode cX8_tick 6 = .ok (.iadd, 1) := dc_96 (by decide +kernel)
theorem dX8_tick_7 : decode cX8_tick 7 = .ok (.putfield 122, 3) := dc_181 (a := 0) (b := 122) (n := 122) (by decide +kernel)
theorem dX8_tick_10 : decode cX8_tick 10 = .ok (.aload_n 0, 1) := dc_42 (by decide +kernel)
theorem dX8_tick_11 : decode cX8_tick 11 = .ok (.getfield 51, 3) := dc_180 (a := 0) (b := 51) (n := 51) (by decide +kernel)
theorem dX8_tick_14 : decode cX8_tick 14 = .ok (.aload_n 0, 1) := dc_42 (by decide +kernel)
theorem dX8_tick_15 : decode cX8_tick 15 = .ok (.getfield 122, 3) := dc_180 (a := 0) (b := 122) (n := 122) (by decide +kernel)
theorem dX8_tick_18 : decode cX8_tick 18 = .ok (.aload_n 0, 1) := dc_42 (by decide +kernel)
theorem dX8_tick_19 : decode cX8_tick 19 = .ok (.getfield 142, 3) := dc_180 (a := 0) (b := 142) (n := 142) (by decide +kernel)
theorem dX8_tick_22 : decode cX8_tick 22 = .ok (.if_icmp .gt 7, 3) := dc_163 (a := 0) (b := 7) (v := 7) (by decide +kernel)
theorem dX8_tick_25 : decode cX8_tick 25 = .ok (.iconst 1, 1) := dc_4 (by decide +kernel)
theorem dX8_tick_26 : decode cX8_tick 26 = .ok (.goto 4, 3) := dc_167 (a := 0) (b := 4) (v := 4) (by decide +kernel)
theorem dX8_tick_29 : decode cX8_tick 29 = .ok (.iconst 0, 1) := dc_3 (by decide +kernel)
theorem dX8_tick_30 : decode cX8_tick 30 = .ok (.bipush 10, 2) := dc_16 (a := 10) (v := 10) (by decide +kernel)
theorem dX8_tick_32 : decode cX8_tick 32 = .ok (.invokevirtual 145, 3) := dc_182 (a := 0) (b := 145) (n := 145) (by decide +kernel)
theorem dX8_tick_35 : decode cX8_tick 35 = .ok (.return_, 1) := dc_177 (by decide +kernel)
theorem GX8_122 {w : eW} {d : Nat} {Y : eY} {pc : Nat} {ls : eL} {st : List Value} {h : eH} {Q : eO → eH → Prop} {a : Nat} {x : Int32} (hf : g_I 7 h a 8 = some x) (hd : decode Y.2.1 pc = .ok (.getfield 122, 3)) (hY : Y.1.cls = RX8) (kk : wp w d Y (pc + 3) ls (.int x :: st) h Q) : wp w d Y pc ls (.ref a :: st) h Q := x_gI (ci := 7) (k := 8) hf hd rfl (by decide) (by rw [hY]; exact q842) kk
theorem GX8_142 {w : eW} {d : Nat} {Y : eY} {pc : Nat} {ls : eL} {st : List Value} {h : eH} {Q : eO → eH → Prop} {a : Nat} {x : Int32} (hf : g_I 7 h a 9 = some x) (hd : decode Y.2.1 pc = .ok (.getfield 142, 3)) (hY : Y.1.cls = RX8) (kk : wp w d Y (pc + 3) ls (.int x :: st) h Q) : wp w d Y pc ls (.ref a :: st) h Q := x_gI (ci := 7) (k := 9) hf hd rfl (by decide) (by rw [hY]; exact q845) kk
def fX8_tick_b30 (s0 : Nat) (s1 : Int32) (h : eH) : Option ((Unit ⊕ Nat) × eH) :=
  (k_ok 3 h s0).bind fun _ =>
  t_B (fX4_want s0 s1 (10 : Int32) h) fun x2 h3 =>
  some (.inl (), h3)
theorem pX8_tick_b30 {w : eW} {d : Nat} (hd : 8 ≤ d + 1) {s0 : Nat} {s1 : Int32} {h : eH} {q} (hf : fX8_tick_b30 s0 s1 h = some q) : wp w (d + 1) YX8_tick 30 [none] [.int s1, .ref s0] h (e_is (e_rt c_V q)) := by
  unfold fX8_tick_b30 at hf
  refine w_bipush dX8_tick_30 (v := 10) (by decide) ?_
  obtain ⟨_, b1, hf⟩ := Option.bind_eq_some_iff.mp hf
  refine x_ctV hf (e_stV (Yc := YX4_want) (ci := 3) (av := [.int s1, .int (10 : Int32)]) (st := []) dX8_tick_32 q2500 mX4_want rfl (k_ok_some b1).1 (k_ok_some b1).2) mX4_want.2.2.1 mX4_want.2.2.2.2.1 (Nat.le_of_ble_eq_true rfl) (Nat.le_of_ble_eq_true rfl) rfl (fun q hq => pX4_want (by omega) hq) (fun x2 h3 hf => ?_)
  cases hf
  exact w_vret dX8_tick_35 rfl rfl
def fX8_tick (this : Nat) (h : eH) : Option ((Unit ⊕ Nat) × eH) :=
  (g_I 7 h this 8).bind fun x1 =>
  (p_V 7 h this 8 (.int (x1 + (1 : Int32)))).bind fun h3 =>
  (g_A 7 h3 this 0).bind fun a5 =>
  (g_I 7 h3 this 8).bind fun x7 =>
  (g_I 7 h3 this 9).bind fun x9 =>
  if x9 < x7 then
    fX8_tick_b30 a5 (0 : Int32) h3
  else
    fX8_tick_b30 a5 (1 : Int32) h3
theorem pX8_tick {w : eW} {d : Nat} (hd : 8 ≤ d) {this : Nat} {h : eH} {q} (hf : fX8_tick this h = some q) : wm w d YX8_tick [.ref this] h (e_is (e_rt c_V q)) := by
  obtain ⟨d, rfl⟩ : ∃ e, d = e + 1 := ⟨d - 1, by omega⟩
  show wp w (d + 1) YX8_tick 0 [some (.ref this)] [] h _
  unfold fX8_tick at hf
  refine w_aload_n dX8_tick_0 rfl rfl ?_
  refine w_dup dX8_tick_1 rfl ?_
  obtain ⟨x1, b2, hf⟩ := Option.bind_eq_some_iff.mp hf
  refine GX8_122 b2 dX8_tick_2 rfl ?_
  refine w_iconst dX8_tick_5 (v := 1) (by decide) ?_
  refine w_iadd dX8_tick_6 ?_
  obtain ⟨h3, b4, hf⟩ := Option.bind_eq_some_iff.mp hf
  refine SX8_122 b4 dX8_tick_7 rfl ?_
  refine w_aload_n dX8_tick_10 rfl rfl ?_
  obtain ⟨a5, b6, hf⟩ := Option.bind_eq_some_iff.mp hf
  refine GX8_51 b6 dX8_tick_11 rfl ?_
  refine w_aload_n dX8_tick_14 rfl rfl ?_
  obtain ⟨x7, b8, hf⟩ := Option.bind_eq_some_iff.mp hf
  refine GX8_122 b8 dX8_tick_15 rfl ?_
  refine w_aload_n dX8_tick_18 rfl rfl ?_
  obtain ⟨x9, b10, hf⟩ := Option.bind_eq_some_iff.mp hf
  refine GX8_142 b10 dX8_tick_19 rfl ?_
  refine w_icmp_gt 29 dX8_tick_22 (by decide) (fun c11 => ?_) (fun c11 => ?_)
  · replace hf := (if_pos (show x9 < x7 from c11)).symm.trans hf
    refine w_iconst dX8_tick_29 (v := 0) (by decide) ?_
    exact (pX8_tick_b30 hd hf).to trivial
  · replace hf := (if_neg (show ¬ (x9 < x7) from c11)).symm.trans hf
    refine w_iconst dX8_tick_25 (v := 1) (by decide) ?_
    refine w_goto 30 dX8_tick_26 (by decide) ?_
    exact (pX8_tick_b30 hd hf).to trivial
abbrev cX18_link : ByteArray := prog_27_method_2_code
def yX18_link : MethodName := ⟨RX18, "link", "(II)I"⟩
def YX18_link : eY := (yX18_link, cX18_link, 4, (Option.some FieldType.int), [])
theorem mX18_link : e_mv YX18_link RX18 2 := ⟨q2806, qs101, q2807, by decide, by decide +kernel, (e_sig (by decide +kernel))⟩
theorem dX18_link_0 : decode cX18_link 0 = .ok (.aload_n 0, 1) := dc_42 (by decide +kernel)
theorem dX18_link_1 : decode cX18_link 1 = .ok (.dup, 1) := dc_89 (by decide +kernel)
theorem dX18_link_2 : decode cX18_link 2 = .ok (.getfield 24, 3) := dc_180 (a := 0) (b := 24) (n := 24) (by decide +kernel)
theorem dX18_link_5 : decode cX18_link 5 = .ok (.dup_x1, 1) := dc_90 (by decide +kernel)
theorem dX18_link_6 : decode cX18_link 6 = .ok (.iconst 1, 1) := dc_4 (by decide +kernel)
theorem dX18_link_7 : decode cX18_link 7 = .ok (.iadd, 1) := dc_96 (by decide +kernel)
theorem dX18_link_8 : decode cX18_link 8 = .ok (.putfield 24, 3) := dc_181 (a := 0) (b := 24) (n := 24) (by decide +kernel)
theorem dX18_link_11 : decode cX18_link 11 = .ok (.istore_n 3, 1) := dc_62 (by decide +kernel)
theorem dX18_link_12 : decode cX18_link 12 = .ok (.aload_n 0, 1) := dc_42 (by decide +kernel)
theorem dX18_link_13 : decode cX18_link 13 = .ok (.getfield 11, 3) := dc_180 (a := 0) (b := 11) (n := 11) (by decide +kernel)
theorem dX18_link_16 : decode cX18_link 16 = .ok (.iload_n 3, 1) := dc_29 (by decide +kernel)
theorem dX18_link_17 : decode cX18_link 17 = .ok (.iload_n 1, 1) := dc_27 (by decide +kernel)
theorem dX18_link_18 : decode cX18_link 18 = .ok (.iastore, 1) := dc_79 (by decide +kernel)
theorem dX18_link_19 : decode cX18_link 19 = .ok (.aload_n 0, 1) := dc_42 (by decide +kernel)
theorem dX18_link_20 : decode cX18_link 20 = .ok (.getfield 18, 3) := dc_180 (a := 0) (b := 18) (n := 18) (by decide +kernel)
theorem dX18_link_23 : decode cX18_link 23 = .ok (.iload_n 3, 1) := dc_29 (by decide +kernel)
theorem dX18_link_24 : decode cX18_link 24 = .ok (.iconst (-1), 1) := dc_2 (by decide +kernel)
theorem dX18_link_25 : decode cX18_link 25 = .ok (.iastore, 1) := dc_79 (by decide +kernel)
theorem dX18_link_26 : decode cX18_link 26 = .ok (.iload_n 2, 1) := dc_28 (by decide +kernel)
theorem dX18_link_27 : decode cX18_link 27 = .ok (.iconst (-1), 1) := dc_2 (by decide +kernel)
theorem dX18_link_28 : decode cX18_link 28 = .ok (.if_icmp .eq 22, 3) := dc_159 (a := 0) (b := 22) (v := 22) (by decide +kernel)
theorem dX18_link_31 : decode cX18_link 31 = .ok (.aload_n 0, 1) := dc_42 (by decide +kernel)
theorem dX18_link_32 : decode cX18_link 32 = .ok (.getfield 18, 3) := dc_180 (a := 0) (b := 18) (n := 18) (by decide +kernel)
theorem dX18_link_35 : decode cX18_link 35 = .ok (.iload_n 3, 1) := dc_29 (by decide +kernel)
theorem dX18_link_36 : decode cX18_link 36 = .ok (.aload_n 0, 1) := dc_42 (by decide +kernel)
theorem dX18_link_37 : decode cX18_link 37 = .ok (.getfield 18, 3) := dc_180 (a := 0) (b := 18) (n := 18) (by decide +kernel)
theorem dX18_link_40 : decode cX18_link 40 = .ok (.iload_n 2, 1) := dc_28 (by decide +kernel)
theorem dX18_link_41 : decode cX18_link 41 = .ok (.iaload, 1) := dc_46 (by decide +kernel)
theorem dX18_link_42 : decode cX18_link 42 = .ok (.iastore, 1) := dc_79 (by decide +kernel)
theorem dX18_link_43 : decode cX18_link 43 = .ok (.aload_n 0, 1) := dc_42 (by decide +kernel)
theorem dX18_link_44 : decode cX18_link 44 = .ok (.getfield 18, 3) := dc_180 (a := 0) (b := 18) (n := 18) (by decide +kernel)
theorem dX18_link_47 : decode cX18_link 47 = .ok (.iload_n 2, 1) := dc_28 (by decide +kernel)
theorem dX18_link_48 : decode cX18_link 48 = .ok (.iload_n 3, 1) := dc_29 (by decide +kernel)
theorem dX18_link_49 : decode cX18_link 49 = .ok (.iastore, 1) := dc_79 (by decide +kernel)
theorem dX18_link_50 : decode cX18_link 50 = .ok (.iload_n 3, 1) := dc_29 (by decide +kernel)
theorem dX18_link_51 : decode cX18_link 51 = .ok (.ireturn, 1) := dc_172 (by decide +kernel)
theorem GX18_11 {w : eW} {d : Nat} {Y : eY} {pc : Nat} {ls : eL} {st : List Value} {h : eH} {Q : eO → eH → Prop} {a : Nat} {x : Nat} (hf : g_A 17 h a 0 = some x) (hd : decode Y.2.1 pc = .ok (.getfield 11, 3)) (hY : Y.1.cls = RX18) (kk : wp w d Y (pc + 3) ls (.ref x :: st) h Q) : wp w d Y pc ls (.ref a :: st) h Q := x_gA (ci := 17) (k := 0) hf hd rfl (by decide) (by rw [hY]; exact q1137) kk
theorem GX18_18 {w : eW} {d : Nat} {Y : eY} {pc : Nat} {ls : eL} {st : List Value} {h : eH} {Q : eO → eH → Prop} {a : Nat} {x : Nat} (hf : g_A 17 h a 2 = some x) (hd : decode Y.2.1 pc = .ok (.getfield 18, 3)) (hY : Y.1.cls = RX18) (kk : wp w d Y (pc + 3) ls (.ref x :: st) h Q) : wp w d Y pc ls (.ref a :: st) h Q := x_gA (ci := 17) (k := 2) hf hd rfl (by decide) (by rw [hY]; exact q1139) kk
theorem GX18_24 {w : eW} {d : Nat} {Y : eY} {pc : Nat} {ls : eL} {st : List Value} {h : eH} {Q : eO → eH → Prop} {a : Nat} {x : Int32} (hf : g_I 17 h a 3 = some x) (hd : decode Y.2.1 pc = .ok (.getfield 24, 3)) (hY : Y.1.cls = RX18) (kk : wp w d Y (pc + 3) ls (.int x :: st) h Q) : wp w d Y pc ls (.ref a :: st) h Q := x_gI (ci := 17) (k := 3) hf hd rfl (by decide) (by rw [hY]; exact q1140) kk
theorem SX18_24 {w : eW} {d : Nat} {Y : eY} {pc : Nat} {ls : eL} {st : List Value} {h : eH} {Q : eO → eH → Prop} {a : Nat} {h' : eH} {x : Int32} (hf : p_V 17 h a 3 (.int x) = some h') (hd : decode Y.2.1 pc = .ok (.putfield 24, 3)) (hY : Y.1.cls = RX18) (kk : wp w d Y (pc + 3) ls st h' Q) : wp w d Y pc ls (.int x :: .ref a :: st) h Q := x_pI (ci := 17) (k := 3) hf hd rfl (by decide) (by rw [hY]; exact q1140) rfl rfl kk
def fX18_link_b50 (l3 : Int32) (h : eH) : Option (Int32 × eH) :=
  some (l3, h)
theorem pX18_link_b50 {w : eW} {d : Nat} (hd : 0 ≤ d) {l3 : Int32} {h : eH} {q} (hf : fX18_link_b50 l3 h = some q) : wp w d YX18_link 50 [none, none, none, some (.int l3)] [] h (e_is (e_rn c_I q)) := by
  unfold fX18_link_b50 at hf
  refine w_iload_n dX18_link_50 rfl rfl ?_
  cases hf
  exact w_iret dX18_link_51 rfl rfl rfl
def fX18_link (this : Nat) (p0 : Int32) (p1 : Int32) (h : eH) : Option (Int32 × eH) :=
  (g_I 17 h this 3).bind fun x1 =>
  (p_V 17 h this 3 (.int (x1 + (1 : Int32)))).bind fun h3 =>
  (g_A 17 h3 this 0).bind fun a5 =>
  (q_V 100 h3 a5 x1 (.int p0)).bind fun h7 =>
  (g_A 17 h7 this 2).bind fun a9 =>
  (q_V 100 h7 a9 x1 (.int (-1 : Int32))).bind fun h11 =>
  if p1 = (-1 : Int32) then
    fX18_link_b50 x1 h11
  else
    (g_A 17 h11 this 2).bind fun a14 =>
    (g_A 17 h11 this 2).bind fun a16 =>
    (r_I 100 h11 a16 p1).bind fun x18 =>
    (q_V 100 h11 a14 x1 (.int x18)).bind fun h20 =>
    (g_A 17 h20 this 2).bind fun a22 =>
    (q_V 100 h20 a22 p1 (.int x1)).bind fun h24 =>
    fX18_link_b50 x1 h24
theorem pX18_link {w : eW} {d : Nat} (hd : 0 ≤ d) {this : Nat} {p0 : Int32} {p1 : Int32} {h : eH} {q} (hf : fX18_link this p0 p1 h = some q) : wm w d YX18_link [.ref this, .int p0, .int p1] h (e_is (e_rn c_I q)) := by
  show wp w d YX18_link 0 [some (.ref this), some (.int p0), some (.int p1), none] [] h _
  unfold fX18_link at hf
  refine w_aload_n dX18_link_0 rfl rfl ?_
  refine w_dup dX18_link_1 rfl ?_
  obtain ⟨x1, b2, hf⟩ := Option.bind_eq_some_iff.mp hf
  refine GX18_24 b2 dX18_link_2 rfl ?_
  refine w_dup_x1 dX18_link_5 rfl rfl ?_
  refine w_iconst dX18_link_6 (v := 1) (by decide) ?_
  refine w_iadd dX18_link_7 ?_
  obtain ⟨h3, b4, hf⟩ := Option.bind_eq_some_iff.mp hf
  refine SX18_24 b4 dX18_link_8 rfl ?_
  refine w_istore_n dX18_link_11 rfl (by decide) (ls' := [some (.ref this), some (.int p0), some (.int p1), some (.int x1)]) rfl ?_
  refine w_aload_n dX18_link_12 rfl rfl ?_
  obtain ⟨a5, b6, hf⟩ := Option.bind_eq_some_iff.mp hf
  refine GX18_11 b6 dX18_link_13 rfl ?_
  refine w_iload_n dX18_link_16 rfl rfl ?_
  refine w_iload_n dX18_link_17 rfl rfl ?_
  obtain ⟨h7, b8, hf⟩ := Option.bind_eq_some_iff.mp hf
  refine x_qI b8 dX18_link_18 ?_
  refine w_aload_n dX18_link_19 rfl rfl ?_
  obtain ⟨a9, b10, hf⟩ := Option.bind_eq_some_iff.mp hf
  refine GX18_18 b10 dX18_link_20 rfl ?_
  refine w_iload_n dX18_link_23 rfl rfl ?_
  refine w_iconst dX18_link_24 (v := -1) (by decide) ?_
  obtain ⟨h11, b12, hf⟩ := Option.bind_eq_some_iff.mp hf
  refine x_qI b12 dX18_link_25 ?_
  refine w_iload_n dX18_link_26 rfl rfl ?_
  refine w_iconst dX18_link_27 (v := -1) (by decide) ?_
  refine w_icmp_eq 50 dX18_link_28 (by decide) (fun c13 => ?_) (fun c13 => ?_)
  · replace hf := (if_pos (show p1 = (-1 : Int32) from c13)).symm.trans hf
    exact (pX18_link_b50 hd hf).to ⟨rfl, trivial⟩
  · replace hf := (if_neg (show ¬ (p1 = (-1 : Int32)) from c13)).symm.trans hf
    refine w_aload_n dX18_link_31 rfl rfl ?_
    obtain ⟨a14, b15, hf⟩ := Option.bind_eq_some_iff.mp hf
    refine GX18_18 b15 dX18_link_32 rfl ?_
    refine w_iload_n dX18_link_35 rfl rfl ?_
    refine w_aload_n dX18_link_36 rfl rfl ?_
    obtain ⟨a16, b17, hf⟩ := Option.bind_eq_some_iff.mp hf
    refine GX18_18 b17 dX18_link_37 rfl ?_
    refine w_iload_n dX18_link_40 rfl rfl ?_
    obtain ⟨x18, b19, hf⟩ := Option.bind_eq_some_iff.mp hf
    refine x_rI b19 dX18_link_41 ?_
    obtain ⟨h20, b21, hf⟩ := Option.bind_eq_some_iff.mp hf
    refine x_qI b21 dX18_link_42 ?_
    refine w_aload_n dX18_link_43 rfl rfl ?_
    obtain ⟨a22, b23, hf⟩ := Option.bind_eq_some_iff.mp hf
    refine GX18_18 b23 dX18_link_44 rfl ?_
    refine w_iload_n dX18_link_47 rfl rfl ?_
    refine w_iload_n dX18_link_48 rfl rfl ?_
    obtain ⟨h24, b25, hf⟩ := Option.bind_eq_some_iff.mp hf
    refine x_qI b25 dX18_link_49 ?_
    exact (pX18_link_b50 hd hf).to ⟨rfl, trivial⟩
abbrev cX6_begin : ByteArray := prog_7_method_25_code
def yX6_begin : MethodName := ⟨RX6, "begin", "(I)I"⟩
def YX6_begin : eY := (yX6_begin, cX6_begin, 2, (Option.some FieldType.int), [])
theorem mX6_begin : e_mv YX6_begin RX6 1 := ⟨q2814, qs102, q2815, by decide, by decide +kernel, (e_sig (by decide +kernel))⟩
theorem dX6_begin_0 : decode cX6_begin 0 = .ok (.aload_n 0, 1) := dc_42 (by decide +kernel)
theorem dX6_begin_1 : decode cX6_begin 1 = .ok (.bipush 6, 2) := dc_16 (a := 6) (v := 6) (by decide +kernel)
theorem dX6_begin_3 : decode cX6_begin 3 = .ok (.iload_n 1, 1) := dc_27 (by decide +kernel)
theorem dX6_begin_4 : decode cX6_begin 4 = .ok (.invokevirtual 32, 3) := dc_182 (a := 0) (b := 32) (n := 32) (by decide +kernel)
theorem dX6_begin_7 : decode cX6_begin 7 = .ok (.invokestatic 36, 3) := dc_184 (a := 0) (b := 36) (n := 36) (by decide +kernel)
theorem dX6_begin_10 : decode cX6_begin 10 = .ok (.sipush 128, 3) := dc_17 (a := 0) (b := 128) (v := 128) (by decide +kernel)
theorem dX6_begin_13 : decode cX6_begin 13 = .ok (.if_icmp .le 16, 3) := dc_164 (a := 0) (b := 16) (v := 16) (by decide +kernel)
theorem dX6_begin_16 : decode cX6_begin 16 = .ok (.aload_n 0, 1) := dc_42 (by decide +kernel)
theorem dX6_begin_17 : decode cX6_begin 17 = .ok (.bipush 6, 2) := dc_16 (a := 6) (v := 6) (by decide +kernel)
theorem dX6_begin_19 : decode cX6_begin 19 = .ok (.iload_n 1, 1) := dc_27 (by decide +kernel)
theorem dX6_begin_20 : decode cX6_begin 20 = .ok (.invokevirtual 32, 3) := dc_182 (a := 0) (b := 32) (n := 32) (by decide +kernel)
theorem dX6_begin_23 : decode cX6_begin 23 = .ok (.invokestatic 78, 3) := dc_184 (a := 0) (b := 78) (n := 78) (by decide +kernel)
theorem dX6_begin_26 : decode cX6_begin 26 = .ok (.goto 4, 3) := dc_167 (a := 0) (b := 4) (v := 4) (by decide +kernel)
theorem dX6_begin_29 : decode cX6_begin 29 = .ok (.iload_n 1, 1) := dc_27 (by decide +kernel)
theorem dX6_begin_30 : decode cX6_begin 30 = .ok (.ireturn, 1) := dc_172 (by decide +kernel)
def fX6_begin_b30 (s0 : Int32) (h : eH) : Option (Int32 × eH) :=
  some (s0, h)
theorem pX6_begin_b30 {w : eW} {d : Nat} (hd : 1 ≤ d + 1) {s0 : Int32} {h : eH} {q} (hf : fX6_begin_b30 s0 h = some q) : wp w (d + 1) YX6_begin 30 [none, none] [.int s0] h (e_is (e_rn c_I q)) := by
  unfold fX6_begin_b30 at hf
  cases hf
  exact w_iret dX6_begin_30 rfl rfl rfl
def fX6_begin (this : Nat) (p0 : Int32) (h : eH) : Option (Int32 × eH) :=
  (k_ok 5 h this).bind fun _ =>
  (fX6_word this (6 : Int32) p0 h).bind fun q2 =>
  (fX6_a q2.1 q2.2).bind fun q3 =>
  if q3.1 ≤ (128 : Int32) then
    fX6_begin_b30 p0 q3.2
  else
    (k_ok 5 q3.2 this).bind fun _ =>
    (fX6_word this (6 : Int32) p0 q3.2).bind fun q6 =>
    (fX6_far q6.1 q6.2).bind fun q7 =>
    fX6_begin_b30 q7.1 q7.2
theorem pX6_begin {w : eW} {d : Nat} (hd : 1 ≤ d) {this : Nat} {p0 : Int32} {h : eH} {q} (hf : fX6_begin this p0 h = some q) : wm w d YX6_begin [.ref this, .int p0] h (e_is (e_rn c_I q)) := by
  obtain ⟨d, rfl⟩ : ∃ e, d = e + 1 := ⟨d - 1, by omega⟩
  show wp w (d + 1) YX6_begin 0 [some (.ref this), some (.int p0)] [] h _
  unfold fX6_begin at hf
  refine w_aload_n dX6_begin_0 rfl rfl ?_
  refine w_bipush dX6_begin_1 (v := 6) (by decide) ?_
  refine w_iload_n dX6_begin_3 rfl rfl ?_
  obtain ⟨_, b1, hf⟩ := Option.bind_eq_some_iff.mp hf
  refine x_cnI hf (e_stV (Yc := YX6_word) (ci := 5) (av := [.int (6 : Int32), .int p0]) (st := []) dX6_begin_4 q2229 mX6_word rfl (k_ok_some b1).1 (k_ok_some b1).2) mX6_word.2.2.1 mX6_word.2.2.2.2.1 (Nat.le_of_ble_eq_true rfl) (Nat.le_of_ble_eq_true rfl) (fun q hq => pX6_word (by omega) hq) (fun q2 hf => ?_)
  refine x_cnI hf (e_stS (Yc := YX6_a) (av := [.int q2.1]) (st := []) dX6_begin_7 q2238 mX6_a) mX6_a.2.2.1 mX6_a.2.2.2.2.1 (Nat.le_of_ble_eq_true rfl) (Nat.le_of_ble_eq_true rfl) (fun q hq => pX6_a (by omega) hq) (fun q3 hf => ?_)
  refine w_sipush dX6_begin_10 (v := 128) (by decide) ?_
  refine w_icmp_le 29 dX6_begin_13 (by decide) (fun c4 => ?_) (fun c4 => ?_)
  · replace hf := (if_pos (show q3.1 ≤ (128 : Int32) from c4)).symm.trans hf
    refine w_iload_n dX6_begin_29 rfl rfl ?_
    exact (pX6_begin_b30 hd hf).to trivial
  · replace hf := (if_neg (show ¬ (q3.1 ≤ (128 : Int32)) from c4)).symm.trans hf
    refine w_aload_n dX6_begin_16 rfl rfl ?_
    refine w_bipush dX6_begin_17 (v := 6) (by decide) ?_
    refine w_iload_n dX6_begin_19 rfl rfl ?_
    obtain ⟨_, b5, hf⟩ := Option.bind_eq_some_iff.mp hf
    refine x_cnI hf (e_stV (Yc := YX6_word) (ci := 5) (av := [.int (6 : Int32), .int p0]) (st := []) dX6_begin_20 q2229 mX6_word rfl (k_ok_some b5).1 (k_ok_some b5).2) mX6_word.2.2.1 mX6_word.2.2.2.2.1 (Nat.le_of_ble_eq_true rfl) (Nat.le_of_ble_eq_true rfl) (fun q hq => pX6_word (by omega) hq) (fun q6 hf => ?_)
    refine x_cnI hf (e_stS (Yc := YX6_far) (av := [.int q6.1]) (st := []) dX6_begin_23 q2282 mX6_far) mX6_far.2.2.1 mX6_far.2.2.2.2.1 (Nat.le_of_ble_eq_true rfl) (Nat.le_of_ble_eq_true rfl) (fun q hq => pX6_far (by omega) hq) (fun q7 hf => ?_)
    refine w_goto 30 dX6_begin_26 (by decide) ?_
    exact (pX6_begin_b30 hd hf).to trivial
abbrev cX6_find : ByteArray := prog_7_method_26_code
def yX6_find : MethodName := ⟨RX6, "find", "(II)I"⟩
def YX6_find : eY := (yX6_find, cX6_find, 7, (Option.some FieldType.int), [])
theorem mX6_find : e_mv YX6_find RX6 2 := ⟨q2809, q2810, q2811, by decide, by decide +kernel, (e_sig (by decide +kernel))⟩
theorem dX6_find_0 : decode cX6_find 0 = .ok (.iload_n 1, 1) := dc_27 (by decide +kernel)
theorem dX6_find_1 : decode cX6_find 1 = .ok (.sipush 256, 3) := dc_17 (a := 1) (b := 0) (v := 256) (by decide +kernel)
theorem dX6_find_4 : decode cX6_find 4 = .ok (.if_icmp .ne 10, 3) := dc_160 (a := 0) (b := 10) (v := 10) (by decide +kernel)
theorem dX6_find_7 : decode cX6_find 7 = .ok (.aload_n 0, 1) := dc_42 (by decide +kernel)
theorem dX6_find_8 : decode cX6_find 8 = .ok (.getfield 84, 3) := dc_180 (a := 0) (b := 84) (n := 84) (by decide +kernel)
theorem dX6_find_11 : decode cX6_find 11 = .ok (.goto 21, 3) := dc_167 (a := 0) (b := 21) (v := 21) (by decide +kernel)
theorem dX6_find_14 : decode cX6_find 14 = .ok (.aload_n 0, 1) := dc_42 (by decide +kernel)
theorem dX6_find_15 : decode cX6_find 15 = .ok (.iload_n 1, 1) := dc_27 (by decide +kernel)
theorem dX6_find_16 : decode cX6_find 16 = .ok (.invokevirtual 69, 3) := dc_182 (a := 0) (b := 69) (n := 69) (by decide +kernel)
theorem dX6_find_19 : decode cX6_find 19 = .ok (.iconst 1, 1) := dc_4 (by decide +kernel)
theorem dX6_find_20 : decode cX6_find 20 = .ok (.if_icmp .ne 11, 3) := dc_160 (a := 0) (b := 11) (v := 11) (by decide +kernel)
theorem dX6_find_23 : decode cX6_find 23 = .ok (.aload_n 0, 1) := dc_42 (by decide +kernel)
theorem dX6_find_24 : decode cX6_find 24 = .ok (.iload_n 1, 1) := dc_27 (by decide +kernel)
theorem dX6_find_25 : decode cX6_find 25 = .ok (.invokevirtual 62, 3) := dc_182 (a := 0) (b := 62) (n := 62) (by decide +kernel)
theorem dX6_find_28 : decode cX6_find 28 = .ok (.goto 4, 3) := dc_167 (a := 0) (b := 4) (v := 4) (by decide +kernel)
theorem dX6_find_31 : decode cX6_find 31 = .ok (.iconst (-1), 1) := dc_2 (by decide +kernel)
theorem dX6_find_32 : decode cX6_find 32 = .ok (.istore_n 3, 1) := dc_62 (by decide +kernel)
theorem dX6_find_33 : decode cX6_find 33 = .ok (.iload_n 2, 1) := dc_28 (by decide +kernel)
theorem dX6_find_34 : decode cX6_find 34 = .ok (.sipush 256, 3) := dc_17 (a := 1) (b := 0) (v := 256) (by decide +kernel)
theorem dX6_find_37 : decode cX6_find 37 = .ok (.if_icmp .ne 10, 3) := dc_160 (a := 0) (b := 10) (v := 10) (by decide +kernel)
theorem dX6_find_40 : decode cX6_find 40 = .ok (.aload_n 0, 1) := dc_42 (by decide +kernel)
theorem dX6_find_41 : decode cX6_find 41 = .ok (.getfield 81, 3) := dc_180 (a := 0) (b := 81) (n := 81) (by decide +kernel)
theorem dX6_find_44 : decode cX6_find 44 = .ok (.goto 4, 3) := dc_167 (a := 0) (b := 4) (v := 4) (by decide +kernel)
theorem dX6_find_47 : decode cX6_find 47 = .ok (.iload_n 2, 1) := dc_28 (by decide +kernel)
theorem dX6_find_48 : decode cX6_find 48 = .ok (.istore 4, 2) := dc_54 (a := 4) (by decide +kernel)
theorem dX6_find_50 : decode cX6_find 50 = .ok (.iload_n 3, 1) := dc_29 (by decide +kernel)
theorem dX6_find_51 : decode cX6_find 51 = .ok (.iconst (-1), 1) := dc_2 (by decide +kernel)
theorem dX6_find_52 : decode cX6_find 52 = .ok (.if_icmp .eq 9, 3) := dc_159 (a := 0) (b := 9) (v := 9) (by decide +kernel)
theorem dX6_find_55 : decode cX6_find 55 = .ok (.iload 4, 2) := dc_21 (a := 4) (by decide +kernel)
theorem dX6_find_57 : decode cX6_find 57 = .ok (.iconst (-1), 1) := dc_2 (by decide +kernel)
theorem dX6_find_58 : decode cX6_find 58 = .ok (.if_icmp .ne 5, 3) := dc_160 (a := 0) (b := 5) (v := 5) (by decide +kernel)
theorem dX6_find_61 : decode cX6_find 61 = .ok (.iconst (-1), 1) := dc_2 (by decide +kernel)
theorem dX6_find_62 : decode cX6_find 62 = .ok (.ireturn, 1) := dc_172 (by decide +kernel)
theorem dX6_find_63 : decode cX6_find 63 = .ok (.aload_n 0, 1) := dc_42 (by decide +kernel)
theorem dX6_find_64 : decode cX6_find 64 = .ok (.iload_n 3, 1) := dc_29 (by decide +kernel)
theorem dX6_find_65 : decode cX6_find 65 = .ok (.invokevirtual 135, 3) := dc_182 (a := 0) (b := 135) (n := 135) (by decide +kernel)
theorem dX6_find_68 : decode cX6_find 68 = .ok (.istore 5, 2) := dc_54 (a := 5) (by decide +kernel)
theorem dX6_find_70 : decode cX6_find 70 = .ok (.aload_n 0, 1) := dc_42 (by decide +kernel)
theorem dX6_find_71 : decode cX6_find 71 = .ok (.bipush 6, 2) := dc_16 (a := 6) (v := 6) (by decide +kernel)
theorem dX6_find_73 : decode cX6_find 73 = .ok (.iload 5, 2) := dc_21 (a := 5) (by decide +kernel)
theorem dX6_find_75 : decode cX6_find 75 = .ok (.invokevirtual 32, 3) := dc_182 (a := 0) (b := 32) (n := 32) (by decide +kernel)
theorem dX6_find_78 : decode cX6_find 78 = .ok (.istore 6, 2) := dc_54 (a := 6) (by decide +kernel)
theorem dX6_find_80 : decode cX6_find 80 = .ok (.iload 6, 2) := dc_21 (a := 6) (by decide +kernel)
theorem dX6_find_82 : decode cX6_find 82 = .ok (.invokestatic 36, 3) := dc_184 (a := 0) (b := 36) (n := 36) (by decide +kernel)
theorem dX6_find_85 : decode cX6_find 85 = .ok (.sipush 128, 3) := dc_17 (a := 0) (b := 128) (v := 128) (by decide +kernel)
theorem dX6_find_88 : decode cX6_find 88 = .ok (.if_icmp .le 5, 3) := dc_164 (a := 0) (b := 5) (v := 5) (by decide +kernel)
theorem dX6_find_91 : decode cX6_find 91 = .ok (.iconst (-1), 1) := dc_2 (by decide +kernel)
theorem dX6_find_92 : decode cX6_find 92 = .ok (.ireturn, 1) := dc_172 (by decide +kernel)
theorem dX6_find_93 : decode cX6_find 93 = .ok (.iload 6, 2) := dc_21 (a := 6) (by decide +kernel)
theorem dX6_find_95 : decode cX6_find 95 = .ok (.invokestatic 53, 3) := dc_184 (a := 0) (b := 53) (n := 53) (by decide +kernel)
theorem dX6_find_98 : decode cX6_find 98 = .ok (.iload 4, 2) := dc_21 (a := 4) (by decide +kernel)
theorem dX6_find_100 : decode cX6_find 100 = .ok (.if_icmp .ne 9, 3) := dc_160 (a := 0) (b := 9) (v := 9) (by decide +kernel)
theorem dX6_find_103 : decode cX6_find 103 = .ok (.iload 6, 2) := dc_21 (a := 6) (by decide +kernel)
theorem dX6_find_105 : decode cX6_find 105 = .ok (.ldc 24, 2) := dc_18 (a := 24) (by decide +kernel)
theorem dX6_find_107 : decode cX6_find 107 = .ok (.iand, 1) := dc_126 (by decide +kernel)
theorem dX6_find_108 : decode cX6_find 108 = .ok (.ireturn, 1) := dc_172 (by decide +kernel)
theorem dX6_find_109 : decode cX6_find 109 = .ok (.iload 6, 2) := dc_21 (a := 6) (by decide +kernel)
theorem dX6_find_111 : decode cX6_find 111 = .ok (.invokestatic 36, 3) := dc_184 (a := 0) (b := 36) (n := 36) (by decide +kernel)
theorem dX6_find_114 : decode cX6_find 114 = .ok (.sipush 128, 3) := dc_17 (a := 0) (b := 128) (v := 128) (by decide +kernel)
theorem dX6_find_117 : decode cX6_find 117 = .ok (.if_icmp .ne 5, 3) := dc_160 (a := 0) (b := 5) (v := 5) (by decide +kernel)
theorem dX6_find_120 : decode cX6_find 120 = .ok (.iconst (-1), 1) := dc_2 (by decide +kernel)
theorem dX6_find_121 : decode cX6_find 121 = .ok (.ireturn, 1) := dc_172 (by decide +kernel)
theorem dX6_find_122 : decode cX6_find 122 = .ok (.iload 5, 2) := dc_21 (a := 5) (by decide +kernel)
theorem dX6_find_124 : decode cX6_find 124 = .ok (.iload 6, 2) := dc_21 (a := 6) (by decide +kernel)
theorem dX6_find_126 : decode cX6_find 126 = .ok (.invokestatic 36, 3) := dc_184 (a := 0) (b := 36) (n := 36) (by decide +kernel)
theorem dX6_find_129 : decode cX6_find 129 = .ok (.iconst 1, 1) := dc_4 (by decide +kernel)
theorem dX6_find_130 : decode cX6_find 130 = .ok (.iadd, 1) := dc_96 (by decide +kernel)
theorem dX6_find_131 : decode cX6_find 131 = .ok (.iadd, 1) := dc_96 (by decide +kernel)
theorem dX6_find_132 : decode cX6_find 132 = .ok (.istore 5, 2) := dc_54 (a := 5) (by decide +kernel)
theorem dX6_find_134 : decode cX6_find 134 = .ok (.goto (-64), 3) := dc_167 (a := 255) (b := 192) (v := -64) (by decide +kernel)
theorem GX6_84 {w : eW} {d : Nat} {Y : eY} {pc : Nat} {ls : eL} {st : List Value} {h : eH} {Q : eO → eH → Prop} {a : Nat} {x : Int32} (hf : g_I 5 h a 9 = some x) (hd : decode Y.2.1 pc = .ok (.getfield 84, 3)) (hY : Y.1.cls = RX6) (kk : wp w d Y (pc + 3) ls (.int x :: st) h Q) : wp w d Y pc ls (.ref a :: st) h Q := x_gI (ci := 5) (k := 9) hf hd rfl (by decide) (by rw [hY]; exact q557) kk
def fX6_find_b61 (N : Nat)  (h : eH) : Option (Int32 × eH) :=
  some ((-1 : Int32), h)
theorem pX6_find_b61 {w : eW} {d : Nat} (hd : 2 ≤ d + 1) {N : Nat}  {h : eH} {q} (hf : fX6_find_b61 N h = some q) : wp w (d + 1) YX6_find 61 [none, none, none, none, none, none, none] [] h (e_is (e_rn c_I q)) := by
  unfold fX6_find_b61 at hf
  refine w_iconst dX6_find_61 (v := -1) (by decide) ?_
  cases hf
  exact w_iret dX6_find_62 rfl rfl rfl
def fX6_find_b70 (N : Nat) : Nat → Nat → Int32 → Int32 → eH → Option (Int32 × eH)
  | 0, _, _, _, _ => none
  | n + 1, l0, l4, l5, h =>
    (k_ok 5 h l0).bind fun _ =>
    (fX6_word l0 (6 : Int32) l5 h).bind fun q2 =>
    (fX6_a q2.1 q2.2).bind fun q3 =>
    if q3.1 ≤ (128 : Int32) then
      (fX6_b q2.1 q3.2).bind fun q5 =>
      if ¬ q5.1 = l4 then
        (fX6_a q2.1 q5.2).bind fun q7 =>
        if ¬ q7.1 = (128 : Int32) then
          (fX6_a q2.1 q7.2).bind fun q9 =>
          fX6_find_b70 N n l0 l4 (l5 + (q9.1 + (1 : Int32))) q9.2
        else
          some ((-1 : Int32), q7.2)
      else
        some ((q2.1 &&& (65535 : Int32)), q5.2)
    else
      some ((-1 : Int32), q3.2)
theorem pX6_find_b70 {w : eW} {d : Nat} (hd : 2 ≤ d + 1) {N : Nat} : ∀ (n : Nat) l0 l4 l5 h q, fX6_find_b70 N n l0 l4 l5 h = some q → wp w (d + 1) YX6_find 70 [some (.ref l0), none, none, none, some (.int l4), some (.int l5), none] [] h (e_is (e_rn c_I q)) := by
  intro n
  induction n with
  | zero => intro l0 l4 l5 h q hf; simp [fX6_find_b70] at hf
  | succ n ih =>
    intro l0 l4 l5 h q hf
    rw [fX6_find_b70] at hf
    refine w_aload_n dX6_find_70 rfl rfl ?_
    refine w_bipush dX6_find_71 (v := 6) (by decide) ?_
    refine w_iload dX6_find_73 rfl ?_
    obtain ⟨_, b1, hf⟩ := Option.bind_eq_some_iff.mp hf
    refine x_cnI hf (e_stV (Yc := YX6_word) (ci := 5) (av := [.int (6 : Int32), .int l5]) (st := []) dX6_find_75 q2229 mX6_word rfl (k_ok_some b1).1 (k_ok_some b1).2) mX6_word.2.2.1 mX6_word.2.2.2.2.1 (Nat.le_of_ble_eq_true rfl) (Nat.le_of_ble_eq_true rfl) (fun q hq => pX6_word (by omega) hq) (fun q2 hf => ?_)
    refine w_istore dX6_find_78 (by decide) (ls' := [some (.ref l0), none, none, none, some (.int l4), some (.int l5), some (.int q2.1)]) rfl ?_
    refine w_iload dX6_find_80 rfl ?_
    refine x_cnI hf (e_stS (Yc := YX6_a) (av := [.int q2.1]) (st := []) dX6_find_82 q2238 mX6_a) mX6_a.2.2.1 mX6_a.2.2.2.2.1 (Nat.le_of_ble_eq_true rfl) (Nat.le_of_ble_eq_true rfl) (fun q hq => pX6_a (by omega) hq) (fun q3 hf => ?_)
    refine w_sipush dX6_find_85 (v := 128) (by decide) ?_
    refine w_icmp_le 93 dX6_find_88 (by decide) (fun c4 => ?_) (fun c4 => ?_)
    · replace hf := (if_pos (show q3.1 ≤ (128 : Int32) from c4)).symm.trans hf
      refine w_iload dX6_find_93 rfl ?_
      refine x_cnI hf (e_stS (Yc := YX6_b) (av := [.int q2.1]) (st := []) dX6_find_95 q2241 mX6_b) mX6_b.2.2.1 mX6_b.2.2.2.2.1 (Nat.le_of_ble_eq_true rfl) (Nat.le_of_ble_eq_true rfl) (fun q hq => pX6_b (by omega) hq) (fun q5 hf => ?_)
      refine w_iload dX6_find_98 rfl ?_
      refine w_icmp_ne 109 dX6_find_100 (by decide) (fun c6 => ?_) (fun c6 => ?_)
      · replace hf := (if_pos (show ¬ q5.1 = l4 from c6)).symm.trans hf
        refine w_iload dX6_find_109 rfl ?_
        refine x_cnI hf (e_stS (Yc := YX6_a) (av := [.int q2.1]) (st := []) dX6_find_111 q2238 mX6_a) mX6_a.2.2.1 mX6_a.2.2.2.2.1 (Nat.le_of_ble_eq_true rfl) (Nat.le_of_ble_eq_true rfl) (fun q hq => pX6_a (by omega) hq) (fun q7 hf => ?_)
        refine w_sipush dX6_find_114 (v := 128) (by decide) ?_
        refine w_icmp_ne 122 dX6_find_117 (by decide) (fun c8 => ?_) (fun c8 => ?_)
        · replace hf := (if_pos (show ¬ q7.1 = (128 : Int32) from c8)).symm.trans hf
          refine w_iload dX6_find_122 rfl ?_
          refine w_iload dX6_find_124 rfl ?_
          refine x_cnI hf (e_stS (Yc := YX6_a) (av := [.int q2.1]) (st := [.int l5]) dX6_find_126 q2238 mX6_a) mX6_a.2.2.1 mX6_a.2.2.2.2.1 (Nat.le_of_ble_eq_true rfl) (Nat.le_of_ble_eq_true rfl) (fun q hq => pX6_a (by omega) hq) (fun q9 hf => ?_)
          refine w_iconst dX6_find_129 (v := 1) (by decide) ?_
          refine w_iadd dX6_find_130 ?_
          refine w_iadd dX6_find_131 ?_
          refine w_istore dX6_find_132 (by decide) (ls' := [some (.ref l0), none, none, none, some (.int l4), some (.int (l5 + (q9.1 + (1 : Int32)))), some (.int q2.1)]) rfl ?_
          refine w_goto 70 dX6_find_134 (by decide) ?_
          exact (ih _ _ _ _ _ hf).to ⟨rfl, rfl, rfl, trivial⟩
        · replace hf := (if_neg (show ¬ (¬ q7.1 = (128 : Int32)) from (fun z => z c8))).symm.trans hf
          refine w_iconst dX6_find_120 (v := -1) (by decide) ?_
          cases hf
          exact w_iret dX6_find_121 rfl rfl rfl
      · replace hf := (if_neg (show ¬ (¬ q5.1 = l4) from (fun z => z c6))).symm.trans hf
        refine w_iload dX6_find_103 rfl ?_
        refine w_ldc dX6_find_105 q2285 ?_
        refine w_iand dX6_find_107 ?_
        cases hf
        exact w_iret dX6_find_108 rfl rfl rfl
    · replace hf := (if_neg (show ¬ (q3.1 ≤ (128 : Int32)) from c4)).symm.trans hf
      refine w_iconst dX6_find_91 (v := -1) (by decide) ?_
      cases hf
      exact w_iret dX6_find_92 rfl rfl rfl
def fX6_find_b48 (N : Nat) (l0 : Nat) (l3 : Int32) (s0 : Int32) (h : eH) : Option (Int32 × eH) :=
  if l3 = (-1 : Int32) then
    fX6_find_b61 N h
  else
    if ¬ s0 = (-1 : Int32) then
      (k_ok 5 h l0).bind fun _ =>
      (fX6_begin l0 l3 h).bind fun q4 =>
      fX6_find_b70 N N l0 s0 q4.1 q4.2
    else
      fX6_find_b61 N h
theorem pX6_find_b48 {w : eW} {d : Nat} (hd : 2 ≤ d + 1) {N : Nat} {l0 : Nat} {l3 : Int32} {s0 : Int32} {h : eH} {q} (hf : fX6_find_b48 N l0 l3 s0 h = some q) : wp w (d + 1) YX6_find 48 [some (.ref l0), none, none, some (.int l3), none, none, none] [.int s0] h (e_is (e_rn c_I q)) := by
  unfold fX6_find_b48 at hf
  refine w_istore dX6_find_48 (by decide) (ls' := [some (.ref l0), none, none, some (.int l3), some (.int s0), none, none]) rfl ?_
  refine w_iload_n dX6_find_50 rfl rfl ?_
  refine w_iconst dX6_find_51 (v := -1) (by decide) ?_
  refine w_icmp_eq 61 dX6_find_52 (by decide) (fun c1 => ?_) (fun c1 => ?_)
  · replace hf := (if_pos (show l3 = (-1 : Int32) from c1)).symm.trans hf
    exact (pX6_find_b61 hd hf).to trivial
  · replace hf := (if_neg (show ¬ (l3 = (-1 : Int32)) from c1)).symm.trans hf
    refine w_iload dX6_find_55 rfl ?_
    refine w_iconst dX6_find_57 (v := -1) (by decide) ?_
    refine w_icmp_ne 63 dX6_find_58 (by decide) (fun c2 => ?_) (fun c2 => ?_)
    · replace hf := (if_pos (show ¬ s0 = (-1 : Int32) from c2)).symm.trans hf
      refine w_aload_n dX6_find_63 rfl rfl ?_
      refine w_iload_n dX6_find_64 rfl rfl ?_
      obtain ⟨_, b3, hf⟩ := Option.bind_eq_some_iff.mp hf
      refine x_cnI hf (e_stV (Yc := YX6_begin) (ci := 5) (av := [.int l3]) (st := []) dX6_find_65 q2812 mX6_begin rfl (k_ok_some b3).1 (k_ok_some b3).2) mX6_begin.2.2.1 mX6_begin.2.2.2.2.1 (Nat.le_of_ble_eq_true rfl) (Nat.le_of_ble_eq_true rfl) (fun q hq => pX6_begin (by omega) hq) (fun q4 hf => ?_)
      refine w_istore dX6_find_68 (by decide) (ls' := [some (.ref l0), none, none, some (.int l3), some (.int s0), some (.int q4.1), none]) rfl ?_
      exact (pX6_find_b70 hd N _ _ _ _ _ hf).to ⟨rfl, rfl, rfl, trivial⟩
    · replace hf := (if_neg (show ¬ (¬ s0 = (-1 : Int32)) from (fun z => z c2))).symm.trans hf
      exact (pX6_find_b61 hd hf).to trivial
def fX6_find_b32 (N : Nat) (l0 : Nat) (l2 : Int32) (s0 : Int32) (h : eH) : Option (Int32 × eH) :=
  if ¬ l2 = (256 : Int32) then
    fX6_find_b48 N l0 s0 l2 h
  else
    (g_I 5 h l0 8).bind fun x2 =>
    fX6_find_b48 N l0 s0 x2 h
theorem pX6_find_b32 {w : eW} {d : Nat} (hd : 2 ≤ d + 1) {N : Nat} {l0 : Nat} {l2 : Int32} {s0 : Int32} {h : eH} {q} (hf : fX6_find_b32 N l0 l2 s0 h = some q) : wp w (d + 1) YX6_find 32 [some (.ref l0), none, some (.int l2), none, none, none, none] [.int s0] h (e_is (e_rn c_I q)) := by
  unfold fX6_find_b32 at hf
  refine w_istore_n dX6_find_32 rfl (by decide) (ls' := [some (.ref l0), none, some (.int l2), some (.int s0), none, none, none]) rfl ?_
  refine w_iload_n dX6_find_33 rfl rfl ?_
  refine w_sipush dX6_find_34 (v := 256) (by decide) ?_
  refine w_icmp_ne 47 dX6_find_37 (by decide) (fun c1 => ?_) (fun c1 => ?_)
  · replace hf := (if_pos (show ¬ l2 = (256 : Int32) from c1)).symm.trans hf
    refine w_iload_n dX6_find_47 rfl rfl ?_
    exact (pX6_find_b48 hd hf).to ⟨rfl, rfl, trivial⟩
  · replace hf := (if_neg (show ¬ (¬ l2 = (256 : Int32)) from (fun z => z c1))).symm.trans hf
    refine w_aload_n dX6_find_40 rfl rfl ?_
    obtain ⟨x2, b3, hf⟩ := Option.bind_eq_some_iff.mp hf
    refine GX6_81 b3 dX6_find_41 rfl ?_
    refine w_goto 48 dX6_find_44 (by decide) ?_
    exact (pX6_find_b48 hd hf).to ⟨rfl, rfl, trivial⟩
def fX6_find (N : Nat) (this : Nat) (p0 : Int32) (p1 : Int32) (h : eH) : Option (Int32 × eH) :=
  if ¬ p0 = (256 : Int32) then
    (k_ok 5 h this).bind fun _ =>
    (fX6_tag this p0 h).bind fun q3 =>
    if ¬ q3.1 = (1 : Int32) then
      fX6_find_b32 N this p1 (-1 : Int32) q3.2
    else
      (k_ok 5 q3.2 this).bind fun _ =>
      (fX6_rest this p0 q3.2).bind fun q6 =>
      fX6_find_b32 N this p1 q6.1 q6.2
  else
    (g_I 5 h this 9).bind fun x7 =>
    fX6_find_b32 N this p1 x7 h
theorem pX6_find {w : eW} {d : Nat} (hd : 2 ≤ d) {N : Nat} {this : Nat} {p0 : Int32} {p1 : Int32} {h : eH} {q} (hf : fX6_find N this p0 p1 h = some q) : wm w d YX6_find [.ref this, .int p0, .int p1] h (e_is (e_rn c_I q)) := by
  obtain ⟨d, rfl⟩ : ∃ e, d = e + 1 := ⟨d - 1, by omega⟩
  show wp w (d + 1) YX6_find 0 [some (.ref this), some (.int p0), some (.int p1), none, none, none, none] [] h _
  unfold fX6_find at hf
  refine w_iload_n dX6_find_0 rfl rfl ?_
  refine w_sipush dX6_find_1 (v := 256) (by decide) ?_
  refine w_icmp_ne 14 dX6_find_4 (by decide) (fun c1 => ?_) (fun c1 => ?_)
  · replace hf := (if_pos (show ¬ p0 = (256 : Int32) from c1)).symm.trans hf
    refine w_aload_n dX6_find_14 rfl rfl ?_
    refine w_iload_n dX6_find_15 rfl rfl ?_
    obtain ⟨_, b2, hf⟩ := Option.bind_eq_some_iff.mp hf
    refine x_cnI hf (e_stV (Yc := YX6_tag) (ci := 5) (av := [.int p0]) (st := []) dX6_find_16 q2255 mX6_tag rfl (k_ok_some b2).1 (k_ok_some b2).2) mX6_tag.2.2.1 mX6_tag.2.2.2.2.1 (Nat.le_of_ble_eq_true rfl) (Nat.le_of_ble_eq_true rfl) (fun q hq => pX6_tag (by omega) hq) (fun q3 hf => ?_)
    refine w_iconst dX6_find_19 (v := 1) (by decide) ?_
    refine w_icmp_ne 31 dX6_find_20 (by decide) (fun c4 => ?_) (fun c4 => ?_)
    · replace hf := (if_pos (show ¬ q3.1 = (1 : Int32) from c4)).symm.trans hf
      refine w_iconst dX6_find_31 (v := -1) (by decide) ?_
      exact (pX6_find_b32 hd hf).to ⟨rfl, rfl, trivial⟩
    · replace hf := (if_neg (show ¬ (¬ q3.1 = (1 : Int32)) from (fun z => z c4))).symm.trans hf
      refine w_aload_n dX6_find_23 rfl rfl ?_
      refine w_iload_n dX6_find_24 rfl rfl ?_
      obtain ⟨_, b5, hf⟩ := Option.bind_eq_some_iff.mp hf
      refine x_cnI hf (e_stV (Yc := YX6_rest) (ci := 5) (av := [.int p0]) (st := []) dX6_find_25 q2259 mX6_rest rfl (k_ok_some b5).1 (k_ok_some b5).2) mX6_rest.2.2.1 mX6_rest.2.2.2.2.1 (Nat.le_of_ble_eq_true rfl) (Nat.le_of_ble_eq_true rfl) (fun q hq => pX6_rest (by omega) hq) (fun q6 hf => ?_)
      refine w_goto 32 dX6_find_28 (by decide) ?_
      exact (pX6_find_b32 hd hf).to ⟨rfl, rfl, trivial⟩
  · replace hf := (if_neg (show ¬ (¬ p0 = (256 : Int32)) from (fun z => z c1))).symm.trans hf
    refine w_aload_n dX6_find_7 rfl rfl ?_
    obtain ⟨x7, b8, hf⟩ := Option.bind_eq_some_iff.mp hf
    refine GX6_84 b8 dX6_find_8 rfl ?_
    refine w_goto 32 dX6_find_11 (by decide) ?_
    exact (pX6_find_b32 hd hf).to ⟨rfl, rfl, trivial⟩
abbrev cX6_kern : ByteArray := prog_7_method_27_code
def yX6_kern : MethodName := ⟨RX6, "kern", "(I)I"⟩
def YX6_kern : eY := (yX6_kern, cX6_kern, 2, (Option.some FieldType.int), [])
theorem mX6_kern : e_mv YX6_kern RX6 1 := ⟨q2818, q2819, q2820, by decide, by decide +kernel, (e_sig (by decide +kernel))⟩
theorem dX6_kern_0 : decode cX6_kern 0 = .ok (.aload_n 0, 1) := dc_42 (by decide +kernel)
theorem dX6_kern_1 : decode cX6_kern 1 = .ok (.getfield 15, 3) := dc_180 (a := 0) (b := 15) (n := 15) (by decide +kernel)
theorem dX6_kern_4 : decode cX6_kern 4 = .ok (.aload_n 0, 1) := dc_42 (by decide +kernel)
theorem dX6_kern_5 : decode cX6_kern 5 = .ok (.getfield 18, 3) := dc_180 (a := 0) (b := 18) (n := 18) (by decide +kernel)
theorem dX6_kern_8 : decode cX6_kern 8 = .ok (.bipush 7, 2) := dc_16 (a := 7) (v := 7) (by decide +kernel)
theorem dX6_kern_10 : decode cX6_kern 10 = .ok (.iaload, 1) := dc_46 (by decide +kernel)
theorem dX6_kern_11 : decode cX6_kern 11 = .ok (.iload_n 1, 1) := dc_27 (by decide +kernel)
theorem dX6_kern_12 : decode cX6_kern 12 = .ok (.iadd, 1) := dc_96 (by decide +kernel)
theorem dX6_kern_13 : decode cX6_kern 13 = .ok (.ldc 48, 2) := dc_18 (a := 48) (by decide +kernel)
theorem dX6_kern_15 : decode cX6_kern 15 = .ok (.isub, 1) := dc_100 (by decide +kernel)
theorem dX6_kern_16 : decode cX6_kern 16 = .ok (.iaload, 1) := dc_46 (by decide +kernel)
theorem dX6_kern_17 : decode cX6_kern 17 = .ok (.ireturn, 1) := dc_172 (by decide +kernel)
theorem GX6_15 {w : eW} {d : Nat} {Y : eY} {pc : Nat} {ls : eL} {st : List Value} {h : eH} {Q : eO → eH → Prop} {a : Nat} {x : Nat} (hf : g_A 5 h a 1 = some x) (hd : decode Y.2.1 pc = .ok (.getfield 15, 3)) (hY : Y.1.cls = RX6) (kk : wp w d Y (pc + 3) ls (.ref x :: st) h Q) : wp w d Y pc ls (.ref a :: st) h Q := x_gA (ci := 5) (k := 1) hf hd rfl (by decide) (by rw [hY]; exact q542) kk
def fX6_kern (this : Nat) (p0 : Int32) (h : eH) : Option (Int32 × eH) :=
  (g_A 5 h this 1).bind fun a1 =>
  (g_A 5 h this 2).bind fun a3 =>
  (r_I 100 h a3 (7 : Int32)).bind fun x5 =>
  (r_I 100 h a1 ((x5 + p0) - (32768 : Int32))).bind fun x7 =>
  some (x7, h)
theorem pX6_kern {w : eW} {d : Nat} (hd : 0 ≤ d) {this : Nat} {p0 : Int32} {h : eH} {q} (hf : fX6_kern this p0 h = some q) : wm w d YX6_kern [.ref this, .int p0] h (e_is (e_rn c_I q)) := by
  show wp w d YX6_kern 0 [some (.ref this), some (.int p0)] [] h _
  unfold fX6_kern at hf
  refine w_aload_n dX6_kern_0 rfl rfl ?_
  obtain ⟨a1, b2, hf⟩ := Option.bind_eq_some_iff.mp hf
  refine GX6_15 b2 dX6_kern_1 rfl ?_
  refine w_aload_n dX6_kern_4 rfl rfl ?_
  obtain ⟨a3, b4, hf⟩ := Option.bind_eq_some_iff.mp hf
  refine GX6_18 b4 dX6_kern_5 rfl ?_
  refine w_bipush dX6_kern_8 (v := 7) (by decide) ?_
  obtain ⟨x5, b6, hf⟩ := Option.bind_eq_some_iff.mp hf
  refine x_rI b6 dX6_kern_10 ?_
  refine w_iload_n dX6_kern_11 rfl rfl ?_
  refine w_iadd dX6_kern_12 ?_
  refine w_ldc dX6_kern_13 q2224 ?_
  refine w_isub dX6_kern_15 ?_
  obtain ⟨x7, b8, hf⟩ := Option.bind_eq_some_iff.mp hf
  refine x_rI b8 dX6_kern_16 ?_
  cases hf
  exact w_iret dX6_kern_17 rfl rfl rfl
abbrev cX18_join : ByteArray := prog_27_method_4_code
def yX18_join : MethodName := ⟨RX18, "join", "(III)I"⟩
def YX18_join : eY := (yX18_join, cX18_join, 9, (Option.some FieldType.int), [])
theorem mX18_join : e_mv YX18_join RX18 3 := ⟨q2823, qs103, q2824, by decide, by decide +kernel, (e_sig (by decide +kernel))⟩
theorem dX18_join_0 : decode cX18_join 0 = .ok (.aload_n 0, 1) := dc_42 (by decide +kernel)
theorem dX18_join_1 : decode cX18_join 1 = .ok (.getfield 18, 3) := dc_180 (a := 0) (b := 18) (n := 18) (by decide +kernel)
theorem dX18_join_4 : decode cX18_join 4 = .ok (.iload_n 1, 1) := dc_27 (by decide +kernel)
theorem dX18_join_5 : decode cX18_join 5 = .ok (.iaload, 1) := dc_46 (by decide +kernel)
theorem dX18_join_6 : decode cX18_join 6 = .ok (.istore 4, 2) := dc_54 (a := 4) (by decide +kernel)
theorem dX18_join_8 : decode cX18_join 8 = .ok (.aload_n 0, 1) := dc_42 (by decide +kernel)
theorem dX18_join_9 : decode cX18_join 9 = .ok (.getfield 18, 3) := dc_180 (a := 0) (b := 18) (n := 18) (by decide +kernel)
theorem dX18_join_12 : decode cX18_join 12 = .ok (.iload 4, 2) := dc_21 (a := 4) (by decide +kernel)
theorem dX18_join_14 : decode cX18_join 14 = .ok (.iaload, 1) := dc_46 (by decide +kernel)
theorem dX18_join_15 : decode cX18_join 15 = .ok (.istore 5, 2) := dc_54 (a := 5) (by decide +kernel)
theorem dX18_join_17 : decode cX18_join 17 = .ok (.aload_n 0, 1) := dc_42 (by decide +kernel)
theorem dX18_join_18 : decode cX18_join 18 = .ok (.iload_n 3, 1) := dc_29 (by decide +kernel)
theorem dX18_join_19 : decode cX18_join 19 = .ok (.iload 4, 2) := dc_21 (a := 4) (by decide +kernel)
theorem dX18_join_21 : decode cX18_join 21 = .ok (.invokevirtual 31, 3) := dc_182 (a := 0) (b := 31) (n := 31) (by decide +kernel)
theorem dX18_join_24 : decode cX18_join 24 = .ok (.istore 6, 2) := dc_54 (a := 6) (by decide +kernel)
theorem dX18_join_26 : decode cX18_join 26 = .ok (.iload_n 2, 1) := dc_28 (by decide +kernel)
theorem dX18_join_27 : decode cX18_join 27 = .ok (.iconst 2, 1) := dc_5 (by decide +kernel)
theorem dX18_join_28 : decode cX18_join 28 = .ok (.iand, 1) := dc_126 (by decide +kernel)
theorem dX18_join_29 : decode cX18_join 29 = .ok (.ifCond .ne 11, 3) := dc_154 (a := 0) (b := 11) (v := 11) (by decide +kernel)
theorem dX18_join_32 : decode cX18_join 32 = .ok (.aload_n 0, 1) := dc_42 (by decide +kernel)
theorem dX18_join_33 : decode cX18_join 33 = .ok (.getfield 18, 3) := dc_180 (a := 0) (b := 18) (n := 18) (by decide +kernel)
theorem dX18_join_36 : decode cX18_join 36 = .ok (.iload_n 1, 1) := dc_27 (by decide +kernel)
theorem dX18_join_37 : decode cX18_join 37 = .ok (.iload 6, 2) := dc_21 (a := 6) (by decide +kernel)
theorem dX18_join_39 : decode cX18_join 39 = .ok (.iastore, 1) := dc_79 (by decide +kernel)
theorem dX18_join_40 : decode cX18_join 40 = .ok (.iload_n 2, 1) := dc_28 (by decide +kernel)
theorem dX18_join_41 : decode cX18_join 41 = .ok (.iconst 1, 1) := dc_4 (by decide +kernel)
theorem dX18_join_42 : decode cX18_join 42 = .ok (.iand, 1) := dc_126 (by decide +kernel)
theorem dX18_join_43 : decode cX18_join 43 = .ok (.ifCond .ne 17, 3) := dc_154 (a := 0) (b := 17) (v := 17) (by decide +kernel)
theorem dX18_join_46 : decode cX18_join 46 = .ok (.aload_n 0, 1) := dc_42 (by decide +kernel)
theorem dX18_join_47 : decode cX18_join 47 = .ok (.getfield 18, 3) := dc_180 (a := 0) (b := 18) (n := 18) (by decide +kernel)
theorem dX18_join_50 : decode cX18_join 50 = .ok (.iload 6, 2) := dc_21 (a := 6) (by decide +kernel)
theorem dX18_join_52 : decode cX18_join 52 = .ok (.aload_n 0, 1) := dc_42 (by decide +kernel)
theorem dX18_join_53 : decode cX18_join 53 = .ok (.getfield 18, 3) := dc_180 (a := 0) (b := 18) (n := 18) (by decide +kernel)
theorem dX18_join_56 : decode cX18_join 56 = .ok (.iload 5, 2) := dc_21 (a := 5) (by decide +kernel)
theorem dX18_join_58 : decode cX18_join 58 = .ok (.iaload, 1) := dc_46 (by decide +kernel)
theorem dX18_join_59 : decode cX18_join 59 = .ok (.iastore, 1) := dc_79 (by decide +kernel)
theorem dX18_join_60 : decode cX18_join 60 = .ok (.iload_n 1, 1) := dc_27 (by decide +kernel)
theorem dX18_join_61 : decode cX18_join 61 = .ok (.istore 7, 2) := dc_54 (a := 7) (by decide +kernel)
theorem dX18_join_63 : decode cX18_join 63 = .ok (.iload_n 2, 1) := dc_28 (by decide +kernel)
theorem dX18_join_64 : decode cX18_join 64 = .ok (.iconst 2, 1) := dc_5 (by decide +kernel)
theorem dX18_join_65 : decode cX18_join 65 = .ok (.ishr, 1) := dc_122 (by decide +kernel)
theorem dX18_join_66 : decode cX18_join 66 = .ok (.istore 8, 2) := dc_54 (a := 8) (by decide +kernel)
theorem dX18_join_68 : decode cX18_join 68 = .ok (.iload 8, 2) := dc_21 (a := 8) (by decide +kernel)
theorem dX18_join_70 : decode cX18_join 70 = .ok (.ifCond .le 34, 3) := dc_158 (a := 0) (b := 34) (v := 34) (by decide +kernel)
theorem dX18_join_73 : decode cX18_join 73 = .ok (.aload_n 0, 1) := dc_42 (by decide +kernel)
theorem dX18_join_74 : decode cX18_join 74 = .ok (.getfield 18, 3) := dc_180 (a := 0) (b := 18) (n := 18) (by decide +kernel)
theorem dX18_join_77 : decode cX18_join 77 = .ok (.aload_n 0, 1) := dc_42 (by decide +kernel)
theorem dX18_join_78 : decode cX18_join 78 = .ok (.getfield 18, 3) := dc_180 (a := 0) (b := 18) (n := 18) (by decide +kernel)
theorem dX18_join_81 : decode cX18_join 81 = .ok (.iload 7, 2) := dc_21 (a := 7) (by decide +kernel)
theorem dX18_join_83 : decode cX18_join 83 = .ok (.iaload, 1) := dc_46 (by decide +kernel)
theorem dX18_join_84 : decode cX18_join 84 = .ok (.iaload, 1) := dc_46 (by decide +kernel)
theorem dX18_join_85 : decode cX18_join 85 = .ok (.iconst (-1), 1) := dc_2 (by decide +kernel)
theorem dX18_join_86 : decode cX18_join 86 = .ok (.if_icmp .eq 18, 3) := dc_159 (a := 0) (b := 18) (v := 18) (by decide +kernel)
theorem dX18_join_89 : decode cX18_join 89 = .ok (.aload_n 0, 1) := dc_42 (by decide +kernel)
theorem dX18_join_90 : decode cX18_join 90 = .ok (.getfield 18, 3) := dc_180 (a := 0) (b := 18) (n := 18) (by decide +kernel)
theorem dX18_join_93 : decode cX18_join 93 = .ok (.iload 7, 2) := dc_21 (a := 7) (by decide +kernel)
theorem dX18_join_95 : decode cX18_join 95 = .ok (.iaload, 1) := dc_46 (by decide +kernel)
theorem dX18_join_96 : decode cX18_join 96 = .ok (.istore 7, 2) := dc_54 (a := 7) (by decide +kernel)
theorem dX18_join_98 : decode cX18_join 98 = .ok (.iinc 8 (-1), 3) := dc_132 (a := 8) (b := 255) (v := -1) (by decide +kernel)
theorem dX18_join_101 : decode cX18_join 101 = .ok (.goto (-33), 3) := dc_167 (a := 255) (b := 223) (v := -33) (by decide +kernel)
theorem dX18_join_104 : decode cX18_join 104 = .ok (.iload 7, 2) := dc_21 (a := 7) (by decide +kernel)
theorem dX18_join_106 : decode cX18_join 106 = .ok (.ireturn, 1) := dc_172 (by decide +kernel)
def fX18_join_b104 (N : Nat) (l7 : Int32) (h : eH) : Option (Int32 × eH) :=
  some (l7, h)
theorem pX18_join_b104 {w : eW} {d : Nat} (hd : 1 ≤ d + 1) {N : Nat} {l7 : Int32} {h : eH} {q} (hf : fX18_join_b104 N l7 h = some q) : wp w (d + 1) YX18_join 104 [none, none, none, none, none, none, none, some (.int l7), none] [] h (e_is (e_rn c_I q)) := by
  unfold fX18_join_b104 at hf
  refine w_iload dX18_join_104 rfl ?_
  cases hf
  exact w_iret dX18_join_106 rfl rfl rfl
def fX18_join_b68 (N : Nat) : Nat → Nat → Int32 → Int32 → eH → Option (Int32 × eH)
  | 0, _, _, _, _ => none
  | n + 1, l0, l7, l8, h =>
    if l8 ≤ 0 then
      fX18_join_b104 N l7 h
    else
      (g_A 17 h l0 2).bind fun a2 =>
      (g_A 17 h l0 2).bind fun a4 =>
      (r_I 100 h a4 l7).bind fun x6 =>
      (r_I 100 h a2 x6).bind fun x8 =>
      if x8 = (-1 : Int32) then
        fX18_join_b104 N l7 h
      else
        (g_A 17 h l0 2).bind fun a11 =>
        (r_I 100 h a11 l7).bind fun x13 =>
        fX18_join_b68 N n l0 x13 (l8 + (-1 : Int32)) h
theorem pX18_join_b68 {w : eW} {d : Nat} (hd : 1 ≤ d + 1) {N : Nat} : ∀ (n : Nat) l0 l7 l8 h q, fX18_join_b68 N n l0 l7 l8 h = some q → wp w (d + 1) YX18_join 68 [some (.ref l0), none, none, none, none, none, none, some (.int l7), some (.int l8)] [] h (e_is (e_rn c_I q)) := by
  intro n
  induction n with
  | zero => intro l0 l7 l8 h q hf; simp [fX18_join_b68] at hf
  | succ n ih =>
    intro l0 l7 l8 h q hf
    rw [fX18_join_b68] at hf
    refine w_iload dX18_join_68 rfl ?_
    refine w_if_le 104 dX18_join_70 (by decide) (fun c1 => ?_) (fun c1 => ?_)
    · replace hf := (if_pos (show l8 ≤ 0 from c1)).symm.trans hf
      exact (pX18_join_b104 hd hf).to ⟨rfl, trivial⟩
    · replace hf := (if_neg (show ¬ (l8 ≤ 0) from c1)).symm.trans hf
      refine w_aload_n dX18_join_73 rfl rfl ?_
      obtain ⟨a2, b3, hf⟩ := Option.bind_eq_some_iff.mp hf
      refine GX18_18 b3 dX18_join_74 rfl ?_
      refine w_aload_n dX18_join_77 rfl rfl ?_
      obtain ⟨a4, b5, hf⟩ := Option.bind_eq_some_iff.mp hf
      refine GX18_18 b5 dX18_join_78 rfl ?_
      refine w_iload dX18_join_81 rfl ?_
      obtain ⟨x6, b7, hf⟩ := Option.bind_eq_some_iff.mp hf
      refine x_rI b7 dX18_join_83 ?_
      obtain ⟨x8, b9, hf⟩ := Option.bind_eq_some_iff.mp hf
      refine x_rI b9 dX18_join_84 ?_
      refine w_iconst dX18_join_85 (v := -1) (by decide) ?_
      refine w_icmp_eq 104 dX18_join_86 (by decide) (fun c10 => ?_) (fun c10 => ?_)
      · replace hf := (if_pos (show x8 = (-1 : Int32) from c10)).symm.trans hf
        exact (pX18_join_b104 hd hf).to ⟨rfl, trivial⟩
      · replace hf := (if_neg (show ¬ (x8 = (-1 : Int32)) from c10)).symm.trans hf
        refine w_aload_n dX18_join_89 rfl rfl ?_
        obtain ⟨a11, b12, hf⟩ := Option.bind_eq_some_iff.mp hf
        refine GX18_18 b12 dX18_join_90 rfl ?_
        refine w_iload dX18_join_93 rfl ?_
        obtain ⟨x13, b14, hf⟩ := Option.bind_eq_some_iff.mp hf
        refine x_rI b14 dX18_join_95 ?_
        refine w_istore dX18_join_96 (by decide) (ls' := [some (.ref l0), none, none, none, none, none, none, some (.int x13), some (.int l8)]) rfl ?_
        refine w_iinc dX18_join_98 (v := (l8 + (-1 : Int32))) rfl rfl (by decide) (ls' := [some (.ref l0), none, none, none, none, none, none, some (.int x13), some (.int (l8 + (-1 : Int32)))]) rfl ?_
        refine w_goto 68 dX18_join_101 (by decide) ?_
        exact (ih _ _ _ _ _ hf).to ⟨rfl, rfl, rfl, trivial⟩
def fX18_join_b60 (N : Nat) (l0 : Nat) (l1 : Int32) (l2 : Int32) (h : eH) : Option (Int32 × eH) :=
  fX18_join_b68 N N l0 l1 (l2 >>> ((2 : Int32) &&& 31)) h
theorem pX18_join_b60 {w : eW} {d : Nat} (hd : 1 ≤ d + 1) {N : Nat} {l0 : Nat} {l1 : Int32} {l2 : Int32} {h : eH} {q} (hf : fX18_join_b60 N l0 l1 l2 h = some q) : wp w (d + 1) YX18_join 60 [some (.ref l0), some (.int l1), some (.int l2), none, none, none, none, none, none] [] h (e_is (e_rn c_I q)) := by
  unfold fX18_join_b60 at hf
  refine w_iload_n dX18_join_60 rfl rfl ?_
  refine w_istore dX18_join_61 (by decide) (ls' := [some (.ref l0), some (.int l1), some (.int l2), none, none, none, none, some (.int l1), none]) rfl ?_
  refine w_iload_n dX18_join_63 rfl rfl ?_
  refine w_iconst dX18_join_64 (v := 2) (by decide) ?_
  refine w_ishr dX18_join_65 ?_
  refine w_istore dX18_join_66 (by decide) (ls' := [some (.ref l0), some (.int l1), some (.int l2), none, none, none, none, some (.int l1), some (.int (l2 >>> ((2 : Int32) &&& 31)))]) rfl ?_
  exact (pX18_join_b68 hd N _ _ _ _ _ hf).to ⟨rfl, rfl, rfl, trivial⟩
def fX18_join_b40 (N : Nat) (l0 : Nat) (l1 : Int32) (l2 : Int32) (l5 : Int32) (l6 : Int32) (h : eH) : Option (Int32 × eH) :=
  if ¬ (l2 &&& (1 : Int32)) = 0 then
    fX18_join_b60 N l0 l1 l2 h
  else
    (g_A 17 h l0 2).bind fun a2 =>
    (g_A 17 h l0 2).bind fun a4 =>
    (r_I 100 h a4 l5).bind fun x6 =>
    (q_V 100 h a2 l6 (.int x6)).bind fun h8 =>
    fX18_join_b60 N l0 l1 l2 h8
theorem pX18_join_b40 {w : eW} {d : Nat} (hd : 1 ≤ d + 1) {N : Nat} {l0 : Nat} {l1 : Int32} {l2 : Int32} {l5 : Int32} {l6 : Int32} {h : eH} {q} (hf : fX18_join_b40 N l0 l1 l2 l5 l6 h = some q) : wp w (d + 1) YX18_join 40 [some (.ref l0), some (.int l1), some (.int l2), none, none, some (.int l5), some (.int l6), none, none] [] h (e_is (e_rn c_I q)) := by
  unfold fX18_join_b40 at hf
  refine w_iload_n dX18_join_40 rfl rfl ?_
  refine w_iconst dX18_join_41 (v := 1) (by decide) ?_
  refine w_iand dX18_join_42 ?_
  refine w_if_ne 60 dX18_join_43 (by decide) (fun c1 => ?_) (fun c1 => ?_)
  · replace hf := (if_pos (show ¬ (l2 &&& (1 : Int32)) = 0 from c1)).symm.trans hf
    exact (pX18_join_b60 hd hf).to ⟨rfl, rfl, rfl, trivial⟩
  · replace hf := (if_neg (show ¬ (¬ (l2 &&& (1 : Int32)) = 0) from (fun z => z c1))).symm.trans hf
    refine w_aload_n dX18_join_46 rfl rfl ?_
    obtain ⟨a2, b3, hf⟩ := Option.bind_eq_some_iff.mp hf
    refine GX18_18 b3 dX18_join_47 rfl ?_
    refine w_iload dX18_join_50 rfl ?_
    refine w_aload_n dX18_join_52 rfl rfl ?_
    obtain ⟨a4, b5, hf⟩ := Option.bind_eq_some_iff.mp hf
    refine GX18_18 b5 dX18_join_53 rfl ?_
    refine w_iload dX18_join_56 rfl ?_
    obtain ⟨x6, b7, hf⟩ := Option.bind_eq_some_iff.mp hf
    refine x_rI b7 dX18_join_58 ?_
    obtain ⟨h8, b9, hf⟩ := Option.bind_eq_some_iff.mp hf
    refine x_qI b9 dX18_join_59 ?_
    exact (pX18_join_b60 hd hf).to ⟨rfl, rfl, rfl, trivial⟩
def fX18_join (N : Nat) (this : Nat) (p0 : Int32) (p1 : Int32) (p2 : Int32) (h : eH) : Option (Int32 × eH) :=
  (g_A 17 h this 2).bind fun a1 =>
  (r_I 100 h a1 p0).bind fun x3 =>
  (g_A 17 h this 2).bind fun a5 =>
  (r_I 100 h a5 x3).bind fun x7 =>
  (k_ok 17 h this).bind fun _ =>
  (fX18_link this p2 x3 h).bind fun q10 =>
  if ¬ (p1 &&& (2 : Int32)) = 0 then
    fX18_join_b40 N this p0 p1 x7 q10.1 q10.2
  else
    (g_A 17 q10.2 this 2).bind fun a12 =>
    (q_V 100 q10.2 a12 p0 (.int q10.1)).bind fun h14 =>
    fX18_join_b40 N this p0 p1 x7 q10.1 h14
theorem pX18_join {w : eW} {d : Nat} (hd : 1 ≤ d) {N : Nat} {this : Nat} {p0 : Int32} {p1 : Int32} {p2 : Int32} {h : eH} {q} (hf : fX18_join N this p0 p1 p2 h = some q) : wm w d YX18_join [.ref this, .int p0, .int p1, .int p2] h (e_is (e_rn c_I q)) := by
  obtain ⟨d, rfl⟩ : ∃ e, d = e + 1 := ⟨d - 1, by omega⟩
  show wp w (d + 1) YX18_join 0 [some (.ref this), some (.int p0), some (.int p1), some (.int p2), none, none, none, none, none] [] h _
  unfold fX18_join at hf
  refine w_aload_n dX18_join_0 rfl rfl ?_
  obtain ⟨a1, b2, hf⟩ := Option.bind_eq_some_iff.mp hf
  refine GX18_18 b2 dX18_join_1 rfl ?_
  refine w_iload_n dX18_join_4 rfl rfl ?_
  obtain ⟨x3, b4, hf⟩ := Option.bind_eq_some_iff.mp hf
  refine x_rI b4 dX18_join_5 ?_
  refine w_istore dX18_join_6 (by decide) (ls' := [some (.ref this), some (.int p0), some (.int p1), some (.int p2), some (.int x3), none, none, none, none]) rfl ?_
  refine w_aload_n dX18_join_8 rfl rfl ?_
  obtain ⟨a5, b6, hf⟩ := Option.bind_eq_some_iff.mp hf
  refine GX18_18 b6 dX18_join_9 rfl ?_
  refine w_iload dX18_join_12 rfl ?_
  obtain ⟨x7, b8, hf⟩ := Option.bind_eq_some_iff.mp hf
  refine x_rI b8 dX18_join_14 ?_
  refine w_istore dX18_join_15 (by decide) (ls' := [some (.ref this), some (.int p0), some (.int p1), some (.int p2), some (.int x3), some (.int x7), none, none, none]) rfl ?_
  refine w_aload_n dX18_join_17 rfl rfl ?_
  refine w_iload_n dX18_join_18 rfl rfl ?_
  refine w_iload dX18_join_19 rfl ?_
  obtain ⟨_, b9, hf⟩ := Option.bind_eq_some_iff.mp hf
  refine x_cnI hf (e_stV (Yc := YX18_link) (ci := 17) (av := [.int p2, .int x3]) (st := []) dX18_join_21 q2804 mX18_link rfl (k_ok_some b9).1 (k_ok_some b9).2) mX18_link.2.2.1 mX18_link.2.2.2.2.1 (Nat.le_of_ble_eq_true rfl) (Nat.le_of_ble_eq_true rfl) (fun q hq => pX18_link (by omega) hq) (fun q10 hf => ?_)
  refine w_istore dX18_join_24 (by decide) (ls' := [some (.ref this), some (.int p0), some (.int p1), some (.int p2), some (.int x3), some (.int x7), some (.int q10.1), none, none]) rfl ?_
  refine w_iload_n dX18_join_26 rfl rfl ?_
  refine w_iconst dX18_join_27 (v := 2) (by decide) ?_
  refine w_iand dX18_join_28 ?_
  refine w_if_ne 40 dX18_join_29 (by decide) (fun c11 => ?_) (fun c11 => ?_)
  · replace hf := (if_pos (show ¬ (p1 &&& (2 : Int32)) = 0 from c11)).symm.trans hf
    exact (pX18_join_b40 hd hf).to ⟨rfl, rfl, rfl, rfl, rfl, trivial⟩
  · replace hf := (if_neg (show ¬ (¬ (p1 &&& (2 : Int32)) = 0) from (fun z => z c11))).symm.trans hf
    refine w_aload_n dX18_join_32 rfl rfl ?_
    obtain ⟨a12, b13, hf⟩ := Option.bind_eq_some_iff.mp hf
    refine GX18_18 b13 dX18_join_33 rfl ?_
    refine w_iload_n dX18_join_36 rfl rfl ?_
    refine w_iload dX18_join_37 rfl ?_
    obtain ⟨h14, b15, hf⟩ := Option.bind_eq_some_iff.mp hf
    refine x_qI b15 dX18_join_39 ?_
    exact (pX18_join_b40 hd hf).to ⟨rfl, rfl, rfl, rfl, rfl, trivial⟩
abbrev cX18_gather : ByteArray := prog_27_method_5_code
def yX18_gather : MethodName := ⟨RX18, "gather", "()I"⟩
def YX18_gather : eY := (yX18_gather, cX18_gather, 3, (Option.some FieldType.int), [])
theorem mX18_gather : e_mv YX18_gather RX18 0 := ⟨q2827, qs104, q2828, by decide, by decide +kernel, (e_sig (by decide +kernel))⟩
theorem dX18_gather_0 : decode cX18_gather 0 = .ok (.iconst 0, 1) := dc_3 (by decide +kernel)
theorem dX18_gather_1 : decode cX18_gather 1 = .ok (.istore_n 1, 1) := dc_60 (by decide +kernel)
theorem dX18_gather_2 : decode cX18_gather 2 = .ok (.aload_n 0, 1) := dc_42 (by decide +kernel)
theorem dX18_gather_3 : decode cX18_gather 3 = .ok (.getfield 18, 3) := dc_180 (a := 0) (b := 18) (n := 18) (by decide +kernel)
theorem dX18_gather_6 : decode cX18_gather 6 = .ok (.iconst 0, 1) := dc_3 (by decide +kernel)
theorem dX18_gather_7 : decode cX18_gather 7 = .ok (.iaload, 1) := dc_46 (by decide +kernel)
theorem dX18_gather_8 : decode cX18_gather 8 = .ok (.istore_n 2, 1) := dc_61 (by decide +kernel)
theorem dX18_gather_9 : decode cX18_gather 9 = .ok (.iload_n 2, 1) := dc_28 (by decide +kernel)
theorem dX18_gather_10 : decode cX18_gather 10 = .ok (.iconst (-1), 1) := dc_2 (by decide +kernel)
theorem dX18_gather_11 : decode cX18_gather 11 = .ok (.if_icmp .eq 38, 3) := dc_159 (a := 0) (b := 38) (v := 38) (by decide +kernel)
theorem dX18_gather_14 : decode cX18_gather 14 = .ok (.aload_n 0, 1) := dc_42 (by decide +kernel)
theorem dX18_gather_15 : decode cX18_gather 15 = .ok (.getfield 11, 3) := dc_180 (a := 0) (b := 11) (n := 11) (by decide +kernel)
theorem dX18_gather_18 : decode cX18_gather 18 = .ok (.iload_n 2, 1) := dc_28 (by decide +kernel)
theorem dX18_gather_19 : decode cX18_gather 19 = .ok (.iaload, 1) := dc_46 (by decide +kernel)
theorem dX18_gather_20 : decode cX18_gather 20 = .ok (.sipush 256, 3) := dc_17 (a := 1) (b := 0) (v := 256) (by decide +kernel)
theorem dX18_gather_23 : decode cX18_gather 23 = .ok (.if_icmp .ne 6, 3) := dc_160 (a := 0) (b := 6) (v := 6) (by decide +kernel)
theorem dX18_gather_26 : decode cX18_gather 26 = .ok (.goto 13, 3) := dc_167 (a := 0) (b := 13) (v := 13) (by decide +kernel)
theorem dX18_gather_29 : decode cX18_gather 29 = .ok (.aload_n 0, 1) := dc_42 (by decide +kernel)
theorem dX18_gather_30 : decode cX18_gather 30 = .ok (.getfield 21, 3) := dc_180 (a := 0) (b := 21) (n := 21) (by decide +kernel)
theorem dX18_gather_33 : decode cX18_gather 33 = .ok (.iload_n 1, 1) := dc_27 (by decide +kernel)
theorem dX18_gather_34 : decode cX18_gather 34 = .ok (.iinc 1 1, 3) := dc_132 (a := 1) (b := 1) (v := 1) (by decide +kernel)
theorem dX18_gather_37 : decode cX18_gather 37 = .ok (.iload_n 2, 1) := dc_28 (by decide +kernel)
theorem dX18_gather_38 : decode cX18_gather 38 = .ok (.iastore, 1) := dc_79 (by decide +kernel)
theorem dX18_gather_39 : decode cX18_gather 39 = .ok (.aload_n 0, 1) := dc_42 (by decide +kernel)
theorem dX18_gather_40 : decode cX18_gather 40 = .ok (.getfield 18, 3) := dc_180 (a := 0) (b := 18) (n := 18) (by decide +kernel)
theorem dX18_gather_43 : decode cX18_gather 43 = .ok (.iload_n 2, 1) := dc_28 (by decide +kernel)
theorem dX18_gather_44 : decode cX18_gather 44 = .ok (.iaload, 1) := dc_46 (by decide +kernel)
theorem dX18_gather_45 : decode cX18_gather 45 = .ok (.istore_n 2, 1) := dc_61 (by decide +kernel)
theorem dX18_gather_46 : decode cX18_gather 46 = .ok (.goto (-37), 3) := dc_167 (a := 255) (b := 219) (v := -37) (by decide +kernel)
theorem dX18_gather_49 : decode cX18_gather 49 = .ok (.iload_n 1, 1) := dc_27 (by decide +kernel)
theorem dX18_gather_50 : decode cX18_gather 50 = .ok (.ireturn, 1) := dc_172 (by decide +kernel)
theorem GX18_21 {w : eW} {d : Nat} {Y : eY} {pc : Nat} {ls : eL} {st : List Value} {h : eH} {Q : eO → eH → Prop} {a : Nat} {x : Nat} (hf : g_A 17 h a 5 = some x) (hd : decode Y.2.1 pc = .ok (.getfield 21, 3)) (hY : Y.1.cls = RX18) (kk : wp w d Y (pc + 3) ls (.ref x :: st) h Q) : wp w d Y pc ls (.ref a :: st) h Q := x_gA (ci := 17) (k := 5) hf hd rfl (by decide) (by rw [hY]; exact q1143) kk
def fX18_gather_b39 (N : Nat) (k9 : Nat → Int32 → Int32 → eH → Option (Int32 × eH)) (l0 : Nat) (l1 : Int32) (l2 : Int32) (h : eH) : Option (Int32 × eH) :=
  (g_A 17 h l0 2).bind fun a1 =>
  (r_I 100 h a1 l2).bind fun x3 =>
  k9 l0 l1 x3 h
theorem pX18_gather_b39 {w : eW} {d : Nat} (hd : 0 ≤ d) {N : Nat} {k9 : Nat → Int32 → Int32 → eH → Option (Int32 × eH)} (hk9 : ∀ l0 l1 l2 h q, k9 l0 l1 l2 h = some q → wp w d YX18_gather 9 [some (.ref l0), some (.int l1), some (.int l2)] [] h (e_is (e_rn c_I q))) {l0 : Nat} {l1 : Int32} {l2 : Int32} {h : eH} {q} (hf : fX18_gather_b39 N k9 l0 l1 l2 h = some q) : wp w d YX18_gather 39 [some (.ref l0), some (.int l1), some (.int l2)] [] h (e_is (e_rn c_I q)) := by
  unfold fX18_gather_b39 at hf
  refine w_aload_n dX18_gather_39 rfl rfl ?_
  obtain ⟨a1, b2, hf⟩ := Option.bind_eq_some_iff.mp hf
  refine GX18_18 b2 dX18_gather_40 rfl ?_
  refine w_iload_n dX18_gather_43 rfl rfl ?_
  obtain ⟨x3, b4, hf⟩ := Option.bind_eq_some_iff.mp hf
  refine x_rI b4 dX18_gather_44 ?_
  refine w_istore_n dX18_gather_45 rfl (by decide) (ls' := [some (.ref l0), some (.int l1), some (.int x3)]) rfl ?_
  refine w_goto 9 dX18_gather_46 (by decide) ?_
  exact (hk9 _ _ _ _ _ hf).to ⟨rfl, rfl, rfl, trivial⟩
def fX18_gather_b9 (N : Nat) : Nat → Nat → Int32 → Int32 → eH → Option (Int32 × eH)
  | 0, _, _, _, _ => none
  | n + 1, l0, l1, l2, h =>
    if l2 = (-1 : Int32) then
      some (l1, h)
    else
      (g_A 17 h l0 0).bind fun a2 =>
      (r_I 100 h a2 l2).bind fun x4 =>
      if ¬ x4 = (256 : Int32) then
        (g_A 17 h l0 5).bind fun a7 =>
        (q_V 100 h a7 l1 (.int l2)).bind fun h9 =>
        fX18_gather_b39 N (fX18_gather_b9 N n) l0 (l1 + (1 : Int32)) l2 h9
      else
        fX18_gather_b39 N (fX18_gather_b9 N n) l0 l1 l2 h
theorem pX18_gather_b9 {w : eW} {d : Nat} (hd : 0 ≤ d) {N : Nat} : ∀ (n : Nat) l0 l1 l2 h q, fX18_gather_b9 N n l0 l1 l2 h = some q → wp w d YX18_gather 9 [some (.ref l0), some (.int l1), some (.int l2)] [] h (e_is (e_rn c_I q)) := by
  intro n
  induction n with
  | zero => intro l0 l1 l2 h q hf; simp [fX18_gather_b9] at hf
  | succ n ih =>
    intro l0 l1 l2 h q hf
    rw [fX18_gather_b9] at hf
    refine w_iload_n dX18_gather_9 rfl rfl ?_
    refine w_iconst dX18_gather_10 (v := -1) (by decide) ?_
    refine w_icmp_eq 49 dX18_gather_11 (by decide) (fun c1 => ?_) (fun c1 => ?_)
    · replace hf := (if_pos (show l2 = (-1 : Int32) from c1)).symm.trans hf
      refine w_iload_n dX18_gather_49 rfl rfl ?_
      cases hf
      exact w_iret dX18_gather_50 rfl rfl rfl
    · replace hf := (if_neg (show ¬ (l2 = (-1 : Int32)) from c1)).symm.trans hf
      refine w_aload_n dX18_gather_14 rfl rfl ?_
      obtain ⟨a2, b3, hf⟩ := Option.bind_eq_some_iff.mp hf
      refine GX18_11 b3 dX18_gather_15 rfl ?_
      refine w_iload_n dX18_gather_18 rfl rfl ?_
      obtain ⟨x4, b5, hf⟩ := Option.bind_eq_some_iff.mp hf
      refine x_rI b5 dX18_gather_19 ?_
      refine w_sipush dX18_gather_20 (v := 256) (by decide) ?_
      refine w_icmp_ne 29 dX18_gather_23 (by decide) (fun c6 => ?_) (fun c6 => ?_)
      · replace hf := (if_pos (show ¬ x4 = (256 : Int32) from c6)).symm.trans hf
        refine w_aload_n dX18_gather_29 rfl rfl ?_
        obtain ⟨a7, b8, hf⟩ := Option.bind_eq_some_iff.mp hf
        refine GX18_21 b8 dX18_gather_30 rfl ?_
        refine w_iload_n dX18_gather_33 rfl rfl ?_
        refine w_iinc dX18_gather_34 (v := (l1 + (1 : Int32))) rfl rfl (by decide) (ls' := [some (.ref l0), some (.int (l1 + (1 : Int32))), some (.int l2)]) rfl ?_
        refine w_iload_n dX18_gather_37 rfl rfl ?_
        obtain ⟨h9, b10, hf⟩ := Option.bind_eq_some_iff.mp hf
        refine x_qI b10 dX18_gather_38 ?_
        exact (pX18_gather_b39 hd ih hf).to ⟨rfl, rfl, rfl, trivial⟩
      · replace hf := (if_neg (show ¬ (¬ x4 = (256 : Int32)) from (fun z => z c6))).symm.trans hf
        refine w_goto 39 dX18_gather_26 (by decide) ?_
        exact (pX18_gather_b39 hd ih hf).to ⟨rfl, rfl, rfl, trivial⟩
def fX18_gather (N : Nat) (this : Nat) (h : eH) : Option (Int32 × eH) :=
  (g_A 17 h this 2).bind fun a1 =>
  (r_I 100 h a1 (0 : Int32)).bind fun x3 =>
  fX18_gather_b9 N N this (0 : Int32) x3 h
theorem pX18_gather {w : eW} {d : Nat} (hd : 0 ≤ d) {N : Nat} {this : Nat} {h : eH} {q} (hf : fX18_gather N this h = some q) : wm w d YX18_gather [.ref this] h (e_is (e_rn c_I q)) := by
  show wp w d YX18_gather 0 [some (.ref this), none, none] [] h _
  unfold fX18_gather at hf
  refine w_iconst dX18_gather_0 (v := 0) (by decide) ?_
  refine w_istore_n dX18_gather_1 rfl (by decide) (ls' := [some (.ref this), some (.int (0 : Int32)), none]) rfl ?_
  refine w_aload_n dX18_gather_2 rfl rfl ?_
  obtain ⟨a1, b2, hf⟩ := Option.bind_eq_some_iff.mp hf
  refine GX18_18 b2 dX18_gather_3 rfl ?_
  refine w_iconst dX18_gather_6 (v := 0) (by decide) ?_
  obtain ⟨x3, b4, hf⟩ := Option.bind_eq_some_iff.mp hf
  refine x_rI b4 dX18_gather_7 ?_
  refine w_istore_n dX18_gather_8 rfl (by decide) (ls' := [some (.ref this), some (.int (0 : Int32)), some (.int x3)]) rfl ?_
  exact (pX18_gather_b9 hd N _ _ _ _ _ hf).to ⟨rfl, rfl, rfl, trivial⟩
abbrev cX18_set : ByteArray := prog_27_method_3_code
def yX18_set : MethodName := ⟨RX18, "set", "(LTypeHouse$Font;[BI)Z"⟩
def YX18_set : eY := (yX18_set, cX18_set, 11, (Option.some FieldType.boolean), [])
theorem mX18_set : e_mv YX18_set RX18 3 := ⟨q2801, q2802, q2803, by decide, by decide +kernel, (e_sig (by decide +kernel))⟩
theorem dX18_set_0 : decode cX18_set 0 = .ok (.aload_n 0, 1) := dc_42 (by decide +kernel)
theorem dX18_set_1 : decode cX18_set 1 = .ok (.iconst 0, 1) := dc_3 (by decide +kernel)
theorem dX18_set_2 : decode cX18_set 2 = .ok (.putfield 24, 3) := dc_181 (a := 0) (b := 24) (n := 24) (by decide +kernel)
theorem dX18_set_5 : decode cX18_set 5 = .ok (.aload_n 0, 1) := dc_42 (by decide +kernel)
theorem dX18_set_6 : decode cX18_set 6 = .ok (.iconst 0, 1) := dc_3 (by decide +kernel)
theorem dX18_set_7 : decode cX18_set 7 = .ok (.putfield 28, 3) := dc_181 (a := 0) (b := 28) (n := 28) (by decide +kernel)
theorem dX18_set_10 : decode cX18_set 10 = .ok (.aload_n 0, 1) := dc_42 (by decide +kernel)
theorem dX18_set_11 : decode cX18_set 11 = .ok (.sipush 257, 3) := dc_17 (a := 1) (b := 1) (v := 257) (by decide +kernel)
theorem dX18_set_14 : decode cX18_set 14 = .ok (.iconst (-1), 1) := dc_2 (by decide +kernel)
theorem dX18_set_15 : decode cX18_set 15 = .ok (.invokevirtual 31, 3) := dc_182 (a := 0) (b := 31) (n := 31) (by decide +kernel)
theorem dX18_set_18 : decode cX18_set 18 = .ok (.istore 4, 2) := dc_54 (a := 4) (by decide +kernel)
theorem dX18_set_20 : decode cX18_set 20 = .ok (.aload_n 1, 1) := dc_43 (by decide +kernel)
theorem dX18_set_21 : decode cX18_set 21 = .ok (.getfield 35, 3) := dc_180 (a := 0) (b := 35) (n := 35) (by decide +kernel)
theorem dX18_set_24 : decode cX18_set 24 = .ok (.iconst (-1), 1) := dc_2 (by decide +kernel)
theorem dX18_set_25 : decode cX18_set 25 = .ok (.if_icmp .eq 14, 3) := dc_159 (a := 0) (b := 14) (v := 14) (by decide +kernel)
theorem dX18_set_28 : decode cX18_set 28 = .ok (.aload_n 0, 1) := dc_42 (by decide +kernel)
theorem dX18_set_29 : decode cX18_set 29 = .ok (.sipush 256, 3) := dc_17 (a := 1) (b := 0) (v := 256) (by decide +kernel)
theorem dX18_set_32 : decode cX18_set 32 = .ok (.iload 4, 2) := dc_21 (a := 4) (by decide +kernel)
theorem dX18_set_34 : decode cX18_set 34 = .ok (.invokevirtual 31, 3) := dc_182 (a := 0) (b := 31) (n := 31) (by decide +kernel)
theorem dX18_set_37 : decode cX18_set 37 = .ok (.istore 4, 2) := dc_54 (a := 4) (by decide +kernel)
theorem dX18_set_39 : decode cX18_set 39 = .ok (.iconst 0, 1) := dc_3 (by decide +kernel)
theorem dX18_set_40 : decode cX18_set 40 = .ok (.istore 5, 2) := dc_54 (a := 5) (by decide +kernel)
theorem dX18_set_42 : decode cX18_set 42 = .ok (.iload 5, 2) := dc_21 (a := 5) (by decide +kernel)
theorem dX18_set_44 : decode cX18_set 44 = .ok (.iload_n 3, 1) := dc_29 (by decide +kernel)
theorem dX18_set_45 : decode cX18_set 45 = .ok (.if_icmp .ge 25, 3) := dc_162 (a := 0) (b := 25) (v := 25) (by decide +kernel)
theorem dX18_set_48 : decode cX18_set 48 = .ok (.aload_n 0, 1) := dc_42 (by decide +kernel)
theorem dX18_set_49 : decode cX18_set 49 = .ok (.aload_n 2, 1) := dc_44 (by decide +kernel)
theorem dX18_set_50 : decode cX18_set 50 = .ok (.iload 5, 2) := dc_21 (a := 5) (by decide +kernel)
theorem dX18_set_52 : decode cX18_set 52 = .ok (.baload, 1) := dc_51 (by decide +kernel)
theorem dX18_set_53 : decode cX18_set 53 = .ok (.sipush 255, 3) := dc_17 (a := 0) (b := 255) (v := 255) (by decide +kernel)
theorem dX18_set_56 : decode cX18_set 56 = .ok (.iand, 1) := dc_126 (by decide +kernel)
theorem dX18_set_57 : decode cX18_set 57 = .ok (.iload 4, 2) := dc_21 (a := 4) (by decide +kernel)
theorem dX18_set_59 : decode cX18_set 59 = .ok (.invokevirtual 31, 3) := dc_182 (a := 0) (b := 31) (n := 31) (by decide +kernel)
theorem dX18_set_62 : decode cX18_set 62 = .ok (.istore 4, 2) := dc_54 (a := 4) (by decide +kernel)
theorem dX18_set_64 : decode cX18_set 64 = .ok (.iinc 5 1, 3) := dc_132 (a := 5) (b := 1) (v := 1) (by decide +kernel)
theorem dX18_set_67 : decode cX18_set 67 = .ok (.goto (-25), 3) := dc_167 (a := 255) (b := 231) (v := -25) (by decide +kernel)
theorem dX18_set_70 : decode cX18_set 70 = .ok (.aload_n 1, 1) := dc_43 (by decide +kernel)
theorem dX18_set_71 : decode cX18_set 71 = .ok (.getfield 40, 3) := dc_180 (a := 0) (b := 40) (n := 40) (by decide +kernel)
theorem dX18_set_74 : decode cX18_set 74 = .ok (.iconst (-1), 1) := dc_2 (by decide +kernel)
theorem dX18_set_75 : decode cX18_set 75 = .ok (.if_icmp .eq 14, 3) := dc_159 (a := 0) (b := 14) (v := 14) (by decide +kernel)
theorem dX18_set_78 : decode cX18_set 78 = .ok (.aload_n 0, 1) := dc_42 (by decide +kernel)
theorem dX18_set_79 : decode cX18_set 79 = .ok (.sipush 256, 3) := dc_17 (a := 1) (b := 0) (v := 256) (by decide +kernel)
theorem dX18_set_82 : decode cX18_set 82 = .ok (.iload 4, 2) := dc_21 (a := 4) (by decide +kernel)
theorem dX18_set_84 : decode cX18_set 84 = .ok (.invokevirtual 31, 3) := dc_182 (a := 0) (b := 31) (n := 31) (by decide +kernel)
theorem dX18_set_87 : decode cX18_set 87 = .ok (.istore 4, 2) := dc_54 (a := 4) (by decide +kernel)
theorem dX18_set_89 : decode cX18_set 89 = .ok (.iconst 0, 1) := dc_3 (by decide +kernel)
theorem dX18_set_90 : decode cX18_set 90 = .ok (.istore 5, 2) := dc_54 (a := 5) (by decide +kernel)
theorem dX18_set_92 : decode cX18_set 92 = .ok (.iconst 0, 1) := dc_3 (by decide +kernel)
theorem dX18_set_93 : decode cX18_set 93 = .ok (.istore 6, 2) := dc_54 (a := 6) (by decide +kernel)
theorem dX18_set_95 : decode cX18_set 95 = .ok (.aload_n 0, 1) := dc_42 (by decide +kernel)
theorem dX18_set_96 : decode cX18_set 96 = .ok (.getfield 18, 3) := dc_180 (a := 0) (b := 18) (n := 18) (by decide +kernel)
theorem dX18_set_99 : decode cX18_set 99 = .ok (.iload 5, 2) := dc_21 (a := 5) (by decide +kernel)
theorem dX18_set_101 : decode cX18_set 101 = .ok (.iaload, 1) := dc_46 (by decide +kernel)
theorem dX18_set_102 : decode cX18_set 102 = .ok (.iconst (-1), 1) := dc_2 (by decide +kernel)
theorem dX18_set_103 : decode cX18_set 103 = .ok (.if_icmp .eq 143, 3) := dc_159 (a := 0) (b := 143) (v := 143) (by decide +kernel)
theorem dX18_set_106 : decode cX18_set 106 = .ok (.aload_n 0, 1) := dc_42 (by decide +kernel)
theorem dX18_set_107 : decode cX18_set 107 = .ok (.getfield 18, 3) := dc_180 (a := 0) (b := 18) (n := 18) (by decide +kernel)
theorem dX18_set_110 : decode cX18_set 110 = .ok (.aload_n 0, 1) := dc_42 (by decide +kernel)
theorem dX18_set_111 : decode cX18_set 111 = .ok (.getfield 18, 3) := dc_180 (a := 0) (b := 18) (n := 18) (by decide +kernel)
theorem dX18_set_114 : decode cX18_set 114 = .ok (.iload 5, 2) := dc_21 (a := 5) (by decide +kernel)
theorem dX18_set_116 : decode cX18_set 116 = .ok (.iaload, 1) := dc_46 (by decide +kernel)
theorem dX18_set_117 : decode cX18_set 117 = .ok (.iaload, 1) := dc_46 (by decide +kernel)
theorem dX18_set_118 : decode cX18_set 118 = .ok (.iconst (-1), 1) := dc_2 (by decide +kernel)
theorem dX18_set_119 : decode cX18_set 119 = .ok (.if_icmp .eq 127, 3) := dc_159 (a := 0) (b := 127) (v := 127) (by decide +kernel)
theorem dX18_set_122 : decode cX18_set 122 = .ok (.iload 6, 2) := dc_21 (a := 6) (by decide +kernel)
theorem dX18_set_124 : decode cX18_set 124 = .ok (.sipush 1000, 3) := dc_17 (a := 3) (b := 232) (v := 1000) (by decide +kernel)
theorem dX18_set_127 : decode cX18_set 127 = .ok (.if_icmp .ne 5, 3) := dc_160 (a := 0) (b := 5) (v := 5) (by decide +kernel)
theorem dX18_set_130 : decode cX18_set 130 = .ok (.iconst 0, 1) := dc_3 (by decide +kernel)
theorem dX18_set_131 : decode cX18_set 131 = .ok (.ireturn, 1) := dc_172 (by decide +kernel)
theorem dX18_set_132 : decode cX18_set 132 = .ok (.iinc 6 1, 3) := dc_132 (a := 6) (b := 1) (v := 1) (by decide +kernel)
theorem dX18_set_135 : decode cX18_set 135 = .ok (.aload_n 0, 1) := dc_42 (by decide +kernel)
theorem dX18_set_136 : decode cX18_set 136 = .ok (.getfield 18, 3) := dc_180 (a := 0) (b := 18) (n := 18) (by decide +kernel)
theorem dX18_set_139 : decode cX18_set 139 = .ok (.iload 5, 2) := dc_21 (a := 5) (by decide +kernel)
theorem dX18_set_141 : decode cX18_set 141 = .ok (.iaload, 1) := dc_46 (by decide +kernel)
theorem dX18_set_142 : decode cX18_set 142 = .ok (.istore 7, 2) := dc_54 (a := 7) (by decide +kernel)
theorem dX18_set_144 : decode cX18_set 144 = .ok (.aload_n 0, 1) := dc_42 (by decide +kernel)
theorem dX18_set_145 : decode cX18_set 145 = .ok (.getfield 18, 3) := dc_180 (a := 0) (b := 18) (n := 18) (by decide +kernel)
theorem dX18_set_148 : decode cX18_set 148 = .ok (.iload 7, 2) := dc_21 (a := 7) (by decide +kernel)
theorem dX18_set_150 : decode cX18_set 150 = .ok (.iaload, 1) := dc_46 (by decide +kernel)
theorem dX18_set_151 : decode cX18_set 151 = .ok (.istore 8, 2) := dc_54 (a := 8) (by decide +kernel)
theorem dX18_set_153 : decode cX18_set 153 = .ok (.aload_n 1, 1) := dc_43 (by decide +kernel)
theorem dX18_set_154 : decode cX18_set 154 = .ok (.aload_n 0, 1) := dc_42 (by decide +kernel)
theorem dX18_set_155 : decode cX18_set 155 = .ok (.getfield 11, 3) := dc_180 (a := 0) (b := 11) (n := 11) (by decide +kernel)
theorem dX18_set_158 : decode cX18_set 158 = .ok (.iload 7, 2) := dc_21 (a := 7) (by decide +kernel)
theorem dX18_set_160 : decode cX18_set 160 = .ok (.iaload, 1) := dc_46 (by decide +kernel)
theorem dX18_set_161 : decode cX18_set 161 = .ok (.aload_n 0, 1) := dc_42 (by decide +kernel)
theorem dX18_set_162 : decode cX18_set 162 = .ok (.getfield 11, 3) := dc_180 (a := 0) (b := 11) (n := 11) (by decide +kernel)
theorem dX18_set_165 : decode cX18_set 165 = .ok (.iload 8, 2) := dc_21 (a := 8) (by decide +kernel)
theorem dX18_set_167 : decode cX18_set 167 = .ok (.iaload, 1) := dc_46 (by decide +kernel)
theorem dX18_set_168 : decode cX18_set 168 = .ok (.invokevirtual 43, 3) := dc_182 (a := 0) (b := 43) (n := 43) (by decide +kernel)
theorem dX18_set_171 : decode cX18_set 171 = .ok (.istore 9, 2) := dc_54 (a := 9) (by decide +kernel)
theorem dX18_set_173 : decode cX18_set 173 = .ok (.iload 9, 2) := dc_21 (a := 9) (by decide +kernel)
theorem dX18_set_175 : decode cX18_set 175 = .ok (.iconst (-1), 1) := dc_2 (by decide +kernel)
theorem dX18_set_176 : decode cX18_set 176 = .ok (.if_icmp .ne 10, 3) := dc_160 (a := 0) (b := 10) (v := 10) (by decide +kernel)
theorem dX18_set_179 : decode cX18_set 179 = .ok (.iload 7, 2) := dc_21 (a := 7) (by decide +kernel)
theorem dX18_set_181 : decode cX18_set 181 = .ok (.istore 5, 2) := dc_54 (a := 5) (by decide +kernel)
theorem dX18_set_183 : decode cX18_set 183 = .ok (.goto 60, 3) := dc_167 (a := 0) (b := 60) (v := 60) (by decide +kernel)
theorem dX18_set_186 : decode cX18_set 186 = .ok (.iload 9, 2) := dc_21 (a := 9) (by decide +kernel)
theorem dX18_set_188 : decode cX18_set 188 = .ok (.ldc 46, 2) := dc_18 (a := 46) (by decide +kernel)
theorem dX18_set_190 : decode cX18_set 190 = .ok (.if_icmp .lt 34, 3) := dc_161 (a := 0) (b := 34) (v := 34) (by decide +kernel)
theorem dX18_set_193 : decode cX18_set 193 = .ok (.aload_n 0, 1) := dc_42 (by decide +kernel)
theorem dX18_set_194 : decode cX18_set 194 = .ok (.sipush 257, 3) := dc_17 (a := 1) (b := 1) (v := 257) (by decide +kernel)
theorem dX18_set_197 : decode cX18_set 197 = .ok (.iload 7, 2) := dc_21 (a := 7) (by decide +kernel)
theorem dX18_set_199 : decode cX18_set 199 = .ok (.invokevirtual 31, 3) := dc_182 (a := 0) (b := 31) (n := 31) (by decide +kernel)
theorem dX18_set_202 : decode cX18_set 202 = .ok (.istore 10, 2) := dc_54 (a := 10) (by decide +kernel)
theorem dX18_set_204 : decode cX18_set 204 = .ok (.aload_n 0, 1) := dc_42 (by decide +kernel)
theorem dX18_set_205 : decode cX18_set 205 = .ok (.getfield 15, 3) := dc_180 (a := 0) (b := 15) (n := 15) (by decide +kernel)
theorem dX18_set_208 : decode cX18_set 208 = .ok (.iload 10, 2) := dc_21 (a := 10) (by decide +kernel)
theorem dX18_set_210 : decode cX18_set 210 = .ok (.aload_n 1, 1) := dc_43 (by decide +kernel)
theorem dX18_set_211 : decode cX18_set 211 = .ok (.iload 9, 2) := dc_21 (a := 9) (by decide +kernel)
theorem dX18_set_213 : decode cX18_set 213 = .ok (.invokevirtual 47, 3) := dc_182 (a := 0) (b := 47) (n := 47) (by decide +kernel)
theorem dX18_set_216 : decode cX18_set 216 = .ok (.iastore, 1) := dc_79 (by decide +kernel)
theorem dX18_set_217 : decode cX18_set 217 = .ok (.iload 10, 2) := dc_21 (a := 10) (by decide +kernel)
theorem dX18_set_219 : decode cX18_set 219 = .ok (.istore 5, 2) := dc_54 (a := 5) (by decide +kernel)
theorem dX18_set_221 : decode cX18_set 221 = .ok (.goto 22, 3) := dc_167 (a := 0) (b := 22) (v := 22) (by decide +kernel)
theorem dX18_set_224 : decode cX18_set 224 = .ok (.aload_n 0, 1) := dc_42 (by decide +kernel)
theorem dX18_set_225 : decode cX18_set 225 = .ok (.iload 5, 2) := dc_21 (a := 5) (by decide +kernel)
theorem dX18_set_227 : decode cX18_set 227 = .ok (.iload 9, 2) := dc_21 (a := 9) (by decide +kernel)
theorem dX18_set_229 : decode cX18_set 229 = .ok (.bipush 8, 2) := dc_16 (a := 8) (v := 8) (by decide +kernel)
theorem dX18_set_231 : decode cX18_set 231 = .ok (.ishr, 1) := dc_122 (by decide +kernel)
theorem dX18_set_232 : decode cX18_set 232 = .ok (.iload 9, 2) := dc_21 (a := 9) (by decide +kernel)
theorem dX18_set_234 : decode cX18_set 234 = .ok (.sipush 255, 3) := dc_17 (a := 0) (b := 255) (v := 255) (by decide +kernel)
theorem dX18_set_237 : decode cX18_set 237 = .ok (.iand, 1) := dc_126 (by decide +kernel)
theorem dX18_set_238 : decode cX18_set 238 = .ok (.invokevirtual 51, 3) := dc_182 (a := 0) (b := 51) (n := 51) (by decide +kernel)
theorem dX18_set_241 : decode cX18_set 241 = .ok (.istore 5, 2) := dc_54 (a := 5) (by decide +kernel)
theorem dX18_set_243 : decode cX18_set 243 = .ok (.goto (-148), 3) := dc_167 (a := 255) (b := 108) (v := -148) (by decide +kernel)
theorem dX18_set_246 : decode cX18_set 246 = .ok (.aload_n 0, 1) := dc_42 (by decide +kernel)
theorem dX18_set_247 : decode cX18_set 247 = .ok (.aload_n 0, 1) := dc_42 (by decide +kernel)
theorem dX18_set_248 : decode cX18_set 248 = .ok (.invokevirtual 55, 3) := dc_182 (a := 0) (b := 55) (n := 55) (by decide +kernel)
theorem dX18_set_251 : decode cX18_set 251 = .ok (.putfield 28, 3) := dc_181 (a := 0) (b := 28) (n := 28) (by decide +kernel)
theorem dX18_set_254 : decode cX18_set 254 = .ok (.iconst 1, 1) := dc_4 (by decide +kernel)
theorem dX18_set_255 : decode cX18_set 255 = .ok (.ireturn, 1) := dc_172 (by decide +kernel)
theorem GX18_15 {w : eW} {d : Nat} {Y : eY} {pc : Nat} {ls : eL} {st : List Value} {h : eH} {Q : eO → eH → Prop} {a : Nat} {x : Nat} (hf : g_A 17 h a 1 = some x) (hd : decode Y.2.1 pc = .ok (.getfield 15, 3)) (hY : Y.1.cls = RX18) (kk : wp w d Y (pc + 3) ls (.ref x :: st) h Q) : wp w d Y pc ls (.ref a :: st) h Q := x_gA (ci := 17) (k := 1) hf hd rfl (by decide) (by rw [hY]; exact q1138) kk
theorem GX18_35 {w : eW} {d : Nat} {Y : eY} {pc : Nat} {ls : eL} {st : List Value} {h : eH} {Q : eO → eH → Prop} {a : Nat} {x : Int32} (hf : g_I 5 h a 9 = some x) (hd : decode Y.2.1 pc = .ok (.getfield 35, 3)) (hY : Y.1.cls = RX18) (kk : wp w d Y (pc + 3) ls (.int x :: st) h Q) : wp w d Y pc ls (.ref a :: st) h Q := x_gIN (ci := 5) (k := 9) hf hd rfl (by decide) (by rw [hY]; exact q556) kk
theorem GX18_40 {w : eW} {d : Nat} {Y : eY} {pc : Nat} {ls : eL} {st : List Value} {h : eH} {Q : eO → eH → Prop} {a : Nat} {x : Int32} (hf : g_I 5 h a 8 = some x) (hd : decode Y.2.1 pc = .ok (.getfield 40, 3)) (hY : Y.1.cls = RX18) (kk : wp w d Y (pc + 3) ls (.int x :: st) h Q) : wp w d Y pc ls (.ref a :: st) h Q := x_gIN (ci := 5) (k := 8) hf hd rfl (by decide) (by rw [hY]; exact q554) kk
theorem SX18_28 {w : eW} {d : Nat} {Y : eY} {pc : Nat} {ls : eL} {st : List Value} {h : eH} {Q : eO → eH → Prop} {a : Nat} {h' : eH} {x : Int32} (hf : p_V 17 h a 4 (.int x) = some h') (hd : decode Y.2.1 pc = .ok (.putfield 28, 3)) (hY : Y.1.cls = RX18) (kk : wp w d Y (pc + 3) ls st h' Q) : wp w d Y pc ls (.int x :: .ref a :: st) h Q := x_pI (ci := 17) (k := 4) hf hd rfl (by decide) (by rw [hY]; exact q1141) rfl rfl kk
def fX18_set_b243 (N : Nat) (k95 : Nat → Nat → Int32 → Int32 → eH → Option (Int32 × eH)) (l0 : Nat) (l1 : Nat) (l5 : Int32) (l6 : Int32) (h : eH) : Option (Int32 × eH) :=
  k95 l0 l1 l5 l6 h
theorem pX18_set_b243 {w : eW} {d : Nat} (hd : 3 ≤ d + 1) {N : Nat} {k95 : Nat → Nat → Int32 → Int32 → eH → Option (Int32 × eH)} (hk95 : ∀ l0 l1 l5 l6 h q, k95 l0 l1 l5 l6 h = some q → wp w (d + 1) YX18_set 95 [some (.ref l0), some (.ref l1), none, none, none, some (.int l5), some (.int l6), none, none, none, none] [] h (e_is (e_rn c_I q))) {l0 : Nat} {l1 : Nat} {l5 : Int32} {l6 : Int32} {h : eH} {q} (hf : fX18_set_b243 N k95 l0 l1 l5 l6 h = some q) : wp w (d + 1) YX18_set 243 [some (.ref l0), some (.ref l1), none, none, none, some (.int l5), some (.int l6), none, none, none, none] [] h (e_is (e_rn c_I q)) := by
  unfold fX18_set_b243 at hf
  refine w_goto 95 dX18_set_243 (by decide) ?_
  exact (hk95 _ _ _ _ _ _ hf).to ⟨rfl, rfl, rfl, rfl, trivial⟩
def fX18_set_b246 (N : Nat) (l0 : Nat) (h : eH) : Option (Int32 × eH) :=
  (k_ok 17 h l0).bind fun _ =>
  (fX18_gather N l0 h).bind fun q2 =>
  (p_V 17 q2.2 l0 4 (.int q2.1)).bind fun h3 =>
  some ((1 : Int32), h3)
theorem pX18_set_b246 {w : eW} {d : Nat} (hd : 3 ≤ d + 1) {N : Nat} {l0 : Nat} {h : eH} {q} (hf : fX18_set_b246 N l0 h = some q) : wp w (d + 1) YX18_set 246 [some (.ref l0), none, none, none, none, none, none, none, none, none, none] [] h (e_is (e_rn c_I q)) := by
  unfold fX18_set_b246 at hf
  refine w_aload_n dX18_set_246 rfl rfl ?_
  refine w_aload_n dX18_set_247 rfl rfl ?_
  obtain ⟨_, b1, hf⟩ := Option.bind_eq_some_iff.mp hf
  refine x_cnI hf (e_stV (Yc := YX18_gather) (ci := 17) (av := []) (st := [.ref l0]) dX18_set_248 q2825 mX18_gather rfl (k_ok_some b1).1 (k_ok_some b1).2) mX18_gather.2.2.1 mX18_gather.2.2.2.2.1 (Nat.le_of_ble_eq_true rfl) (Nat.le_of_ble_eq_true rfl) (fun q hq => pX18_gather (by omega) hq) (fun q2 hf => ?_)
  obtain ⟨h3, b4, hf⟩ := Option.bind_eq_some_iff.mp hf
  refine SX18_28 b4 dX18_set_251 rfl ?_
  refine w_iconst dX18_set_254 (v := 1) (by decide) ?_
  cases hf
  exact w_iret dX18_set_255 rfl rfl rfl
def fX18_set_b95 (N : Nat) : Nat → Nat → Nat → Int32 → Int32 → eH → Option (Int32 × eH)
  | 0, _, _, _, _, _ => none
  | n + 1, l0, l1, l5, l6, h =>
    (g_A 17 h l0 2).bind fun a1 =>
    (r_I 100 h a1 l5).bind fun x3 =>
    if x3 = (-1 : Int32) then
      fX18_set_b246 N l0 h
    else
      (g_A 17 h l0 2).bind fun a6 =>
      (g_A 17 h l0 2).bind fun a8 =>
      (r_I 100 h a8 l5).bind fun x10 =>
      (r_I 100 h a6 x10).bind fun x12 =>
      if x12 = (-1 : Int32) then
        fX18_set_b246 N l0 h
      else
        if ¬ l6 = (1000 : Int32) then
          (g_A 17 h l0 2).bind fun a16 =>
          (r_I 100 h a16 l5).bind fun x18 =>
          (g_A 17 h l0 2).bind fun a20 =>
          (r_I 100 h a20 x18).bind fun x22 =>
          (g_A 17 h l0 0).bind fun a24 =>
          (r_I 100 h a24 x18).bind fun x26 =>
          (g_A 17 h l0 0).bind fun a28 =>
          (r_I 100 h a28 x22).bind fun x30 =>
          (k_ok 5 h l1).bind fun _ =>
          (fX6_find N l1 x26 x30 h).bind fun q33 =>
          if ¬ q33.1 = (-1 : Int32) then
            if q33.1 < (32768 : Int32) then
              (k_ok 17 q33.2 l0).bind fun _ =>
              (fX18_join N l0 l5 (q33.1 >>> ((8 : Int32) &&& 31)) (q33.1 &&& (255 : Int32)) q33.2).bind fun q37 =>
              fX18_set_b243 N (fX18_set_b95 N n) l0 l1 q37.1 (l6 + (1 : Int32)) q37.2
            else
              (k_ok 17 q33.2 l0).bind fun _ =>
              (fX18_link l0 (257 : Int32) x18 q33.2).bind fun q39 =>
              (g_A 17 q39.2 l0 1).bind fun a40 =>
              (k_ok 5 q39.2 l1).bind fun _ =>
              (fX6_kern l1 q33.1 q39.2).bind fun q43 =>
              (q_V 100 q43.2 a40 q39.1 (.int q43.1)).bind fun h44 =>
              fX18_set_b243 N (fX18_set_b95 N n) l0 l1 q39.1 (l6 + (1 : Int32)) h44
          else
            fX18_set_b243 N (fX18_set_b95 N n) l0 l1 x18 (l6 + (1 : Int32)) q33.2
        else
          some ((0 : Int32), h)
theorem pX18_set_b95 {w : eW} {d : Nat} (hd : 3 ≤ d + 1) {N : Nat} : ∀ (n : Nat) l0 l1 l5 l6 h q, fX18_set_b95 N n l0 l1 l5 l6 h = some q → wp w (d + 1) YX18_set 95 [some (.ref l0), some (.ref l1), none, none, none, some (.int l5), some (.int l6), none, none, none, none] [] h (e_is (e_rn c_I q)) := by
  intro n
  induction n with
  | zero => intro l0 l1 l5 l6 h q hf; simp [fX18_set_b95] at hf
  | succ n ih =>
    intro l0 l1 l5 l6 h q hf
    rw [fX18_set_b95] at hf
    refine w_aload_n dX18_set_95 rfl rfl ?_
    obtain ⟨a1, b2, hf⟩ := Option.bind_eq_some_iff.mp hf
    refine GX18_18 b2 dX18_set_96 rfl ?_
    refine w_iload dX18_set_99 rfl ?_
    obtain ⟨x3, b4, hf⟩ := Option.bind_eq_some_iff.mp hf
    refine x_rI b4 dX18_set_101 ?_
    refine w_iconst dX18_set_102 (v := -1) (by decide) ?_
    refine w_icmp_eq 246 dX18_set_103 (by decide) (fun c5 => ?_) (fun c5 => ?_)
    · replace hf := (if_pos (show x3 = (-1 : Int32) from c5)).symm.trans hf
      exact (pX18_set_b246 hd hf).to ⟨rfl, trivial⟩
    · replace hf := (if_neg (show ¬ (x3 = (-1 : Int32)) from c5)).symm.trans hf
      refine w_aload_n dX18_set_106 rfl rfl ?_
      obtain ⟨a6, b7, hf⟩ := Option.bind_eq_some_iff.mp hf
      refine GX18_18 b7 dX18_set_107 rfl ?_
      refine w_aload_n dX18_set_110 rfl rfl ?_
      obtain ⟨a8, b9, hf⟩ := Option.bind_eq_some_iff.mp hf
      refine GX18_18 b9 dX18_set_111 rfl ?_
      refine w_iload dX18_set_114 rfl ?_
      obtain ⟨x10, b11, hf⟩ := Option.bind_eq_some_iff.mp hf
      refine x_rI b11 dX18_set_116 ?_
      obtain ⟨x12, b13, hf⟩ := Option.bind_eq_some_iff.mp hf
      refine x_rI b13 dX18_set_117 ?_
      refine w_iconst dX18_set_118 (v := -1) (by decide) ?_
      refine w_icmp_eq 246 dX18_set_119 (by decide) (fun c14 => ?_) (fun c14 => ?_)
      · replace hf := (if_pos (show x12 = (-1 : Int32) from c14)).symm.trans hf
        exact (pX18_set_b246 hd hf).to ⟨rfl, trivial⟩
      · replace hf := (if_neg (show ¬ (x12 = (-1 : Int32)) from c14)).symm.trans hf
        refine w_iload dX18_set_122 rfl ?_
        refine w_sipush dX18_set_124 (v := 1000) (by decide) ?_
        refine w_icmp_ne 132 dX18_set_127 (by decide) (fun c15 => ?_) (fun c15 => ?_)
        · replace hf := (if_pos (show ¬ l6 = (1000 : Int32) from c15)).symm.trans hf
          refine w_iinc dX18_set_132 (v := (l6 + (1 : Int32))) rfl rfl (by decide) (ls' := [some (.ref l0), some (.ref l1), none, none, none, some (.int l5), some (.int (l6 + (1 : Int32))), none, none, none, none]) rfl ?_
          refine w_aload_n dX18_set_135 rfl rfl ?_
          obtain ⟨a16, b17, hf⟩ := Option.bind_eq_some_iff.mp hf
          refine GX18_18 b17 dX18_set_136 rfl ?_
          refine w_iload dX18_set_139 rfl ?_
          obtain ⟨x18, b19, hf⟩ := Option.bind_eq_some_iff.mp hf
          refine x_rI b19 dX18_set_141 ?_
          refine w_istore dX18_set_142 (by decide) (ls' := [some (.ref l0), some (.ref l1), none, none, none, some (.int l5), some (.int (l6 + (1 : Int32))), some (.int x18), none, none, none]) rfl ?_
          refine w_aload_n dX18_set_144 rfl rfl ?_
          obtain ⟨a20, b21, hf⟩ := Option.bind_eq_some_iff.mp hf
          refine GX18_18 b21 dX18_set_145 rfl ?_
          refine w_iload dX18_set_148 rfl ?_
          obtain ⟨x22, b23, hf⟩ := Option.bind_eq_some_iff.mp hf
          refine x_rI b23 dX18_set_150 ?_
          refine w_istore dX18_set_151 (by decide) (ls' := [some (.ref l0), some (.ref l1), none, none, none, some (.int l5), some (.int (l6 + (1 : Int32))), some (.int x18), some (.int x22), none, none]) rfl ?_
          refine w_aload_n dX18_set_153 rfl rfl ?_
          refine w_aload_n dX18_set_154 rfl rfl ?_
          obtain ⟨a24, b25, hf⟩ := Option.bind_eq_some_iff.mp hf
          refine GX18_11 b25 dX18_set_155 rfl ?_
          refine w_iload dX18_set_158 rfl ?_
          obtain ⟨x26, b27, hf⟩ := Option.bind_eq_some_iff.mp hf
          refine x_rI b27 dX18_set_160 ?_
          refine w_aload_n dX18_set_161 rfl rfl ?_
          obtain ⟨a28, b29, hf⟩ := Option.bind_eq_some_iff.mp hf
          refine GX18_11 b29 dX18_set_162 rfl ?_
          refine w_iload dX18_set_165 rfl ?_
          obtain ⟨x30, b31, hf⟩ := Option.bind_eq_some_iff.mp hf
          refine x_rI b31 dX18_set_167 ?_
          obtain ⟨_, b32, hf⟩ := Option.bind_eq_some_iff.mp hf
          refine x_cnI hf (e_stV (Yc := YX6_find) (ci := 5) (av := [.int x26, .int x30]) (st := []) dX18_set_168 q2808 mX6_find rfl (k_ok_some b32).1 (k_ok_some b32).2) mX6_find.2.2.1 mX6_find.2.2.2.2.1 (Nat.le_of_ble_eq_true rfl) (Nat.le_of_ble_eq_true rfl) (fun q hq => pX6_find (by omega) hq) (fun q33 hf => ?_)
          refine w_istore dX18_set_171 (by decide) (ls' := [some (.ref l0), some (.ref l1), none, none, none, some (.int l5), some (.int (l6 + (1 : Int32))), some (.int x18), some (.int x22), some (.int q33.1), none]) rfl ?_
          refine w_iload dX18_set_173 rfl ?_
          refine w_iconst dX18_set_175 (v := -1) (by decide) ?_
          refine w_icmp_ne 186 dX18_set_176 (by decide) (fun c34 => ?_) (fun c34 => ?_)
          · replace hf := (if_pos (show ¬ q33.1 = (-1 : Int32) from c34)).symm.trans hf
            refine w_iload dX18_set_186 rfl ?_
            refine w_ldc dX18_set_188 q2816 ?_
            refine w_icmp_lt 224 dX18_set_190 (by decide) (fun c35 => ?_) (fun c35 => ?_)
            · replace hf := (if_pos (show q33.1 < (32768 : Int32) from c35)).symm.trans hf
              refine w_aload_n dX18_set_224 rfl rfl ?_
              refine w_iload dX18_set_225 rfl ?_
              refine w_iload dX18_set_227 rfl ?_
              refine w_bipush dX18_set_229 (v := 8) (by decide) ?_
              refine w_ishr dX18_set_231 ?_
              refine w_iload dX18_set_232 rfl ?_
              refine w_sipush dX18_set_234 (v := 255) (by decide) ?_
              refine w_iand dX18_set_237 ?_
              obtain ⟨_, b36, hf⟩ := Option.bind_eq_some_iff.mp hf
              refine x_cnI hf (e_stV (Yc := YX18_join) (ci := 17) (av := [.int l5, .int (q33.1 >>> ((8 : Int32) &&& 31)), .int (q33.1 &&& (255 : Int32))]) (st := []) dX18_set_238 q2821 mX18_join rfl (k_ok_some b36).1 (k_ok_some b36).2) mX18_join.2.2.1 mX18_join.2.2.2.2.1 (Nat.le_of_ble_eq_true rfl) (Nat.le_of_ble_eq_true rfl) (fun q hq => pX18_join (by omega) hq) (fun q37 hf => ?_)
              refine w_istore dX18_set_241 (by decide) (ls' := [some (.ref l0), some (.ref l1), none, none, none, some (.int q37.1), some (.int (l6 + (1 : Int32))), some (.int x18), some (.int x22), some (.int q33.1), none]) rfl ?_
              exact (pX18_set_b243 hd ih hf).to ⟨rfl, rfl, rfl, rfl, trivial⟩
            · replace hf := (if_neg (show ¬ (q33.1 < (32768 : Int32)) from c35)).symm.trans hf
              refine w_aload_n dX18_set_193 rfl rfl ?_
              refine w_sipush dX18_set_194 (v := 257) (by decide) ?_
              refine w_iload dX18_set_197 rfl ?_
              obtain ⟨_, b38, hf⟩ := Option.bind_eq_some_iff.mp hf
              refine x_cnI hf (e_stV (Yc := YX18_link) (ci := 17) (av := [.int (257 : Int32), .int x18]) (st := []) dX18_set_199 q2804 mX18_link rfl (k_ok_some b38).1 (k_ok_some b38).2) mX18_link.2.2.1 mX18_link.2.2.2.2.1 (Nat.le_of_ble_eq_true rfl) (Nat.le_of_ble_eq_true rfl) (fun q hq => pX18_link (by omega) hq) (fun q39 hf => ?_)
              refine w_istore dX18_set_202 (by decide) (ls' := [some (.ref l0), some (.ref l1), none, none, none, some (.int l5), some (.int (l6 + (1 : Int32))), some (.int x18), some (.int x22), some (.int q33.1), some (.int q39.1)]) rfl ?_
              refine w_aload_n dX18_set_204 rfl rfl ?_
              obtain ⟨a40, b41, hf⟩ := Option.bind_eq_some_iff.mp hf
              refine GX18_15 b41 dX18_set_205 rfl ?_
              refine w_iload dX18_set_208 rfl ?_
              refine w_aload_n dX18_set_210 rfl rfl ?_
              refine w_iload dX18_set_211 rfl ?_
              obtain ⟨_, b42, hf⟩ := Option.bind_eq_some_iff.mp hf
              refine x_cnI hf (e_stV (Yc := YX6_kern) (ci := 5) (av := [.int q33.1]) (st := [.int q39.1, .ref a40]) dX18_set_213 q2817 mX6_kern rfl (k_ok_some b42).1 (k_ok_some b42).2) mX6_kern.2.2.1 mX6_kern.2.2.2.2.1 (Nat.le_of_ble_eq_true rfl) (Nat.le_of_ble_eq_true rfl) (fun q hq => pX6_kern (by omega) hq) (fun q43 hf => ?_)
              obtain ⟨h44, b45, hf⟩ := Option.bind_eq_some_iff.mp hf
              refine x_qI b45 dX18_set_216 ?_
              refine w_iload dX18_set_217 rfl ?_
              refine w_istore dX18_set_219 (by decide) (ls' := [some (.ref l0), some (.ref l1), none, none, none, some (.int q39.1), some (.int (l6 + (1 : Int32))), some (.int x18), some (.int x22), some (.int q33.1), some (.int q39.1)]) rfl ?_
              refine w_goto 243 dX18_set_221 (by decide) ?_
              exact (pX18_set_b243 hd ih hf).to ⟨rfl, rfl, rfl, rfl, trivial⟩
          · replace hf := (if_neg (show ¬ (¬ q33.1 = (-1 : Int32)) from (fun z => z c34))).symm.trans hf
            refine w_iload dX18_set_179 rfl ?_
            refine w_istore dX18_set_181 (by decide) (ls' := [some (.ref l0), some (.ref l1), none, none, none, some (.int x18), some (.int (l6 + (1 : Int32))), some (.int x18), some (.int x22), some (.int q33.1), none]) rfl ?_
            refine w_goto 243 dX18_set_183 (by decide) ?_
            exact (pX18_set_b243 hd ih hf).to ⟨rfl, rfl, rfl, rfl, trivial⟩
        · replace hf := (if_neg (show ¬ (¬ l6 = (1000 : Int32)) from (fun z => z c15))).symm.trans hf
          refine w_iconst dX18_set_130 (v := 0) (by decide) ?_
          cases hf
          exact w_iret dX18_set_131 rfl rfl rfl
def fX18_set_b89 (N : Nat) (l0 : Nat) (l1 : Nat) (h : eH) : Option (Int32 × eH) :=
  fX18_set_b95 N N l0 l1 (0 : Int32) (0 : Int32) h
theorem pX18_set_b89 {w : eW} {d : Nat} (hd : 3 ≤ d + 1) {N : Nat} {l0 : Nat} {l1 : Nat} {h : eH} {q} (hf : fX18_set_b89 N l0 l1 h = some q) : wp w (d + 1) YX18_set 89 [some (.ref l0), some (.ref l1), none, none, none, none, none, none, none, none, none] [] h (e_is (e_rn c_I q)) := by
  unfold fX18_set_b89 at hf
  refine w_iconst dX18_set_89 (v := 0) (by decide) ?_
  refine w_istore dX18_set_90 (by decide) (ls' := [some (.ref l0), some (.ref l1), none, none, none, some (.int (0 : Int32)), none, none, none, none, none]) rfl ?_
  refine w_iconst dX18_set_92 (v := 0) (by decide) ?_
  refine w_istore dX18_set_93 (by decide) (ls' := [some (.ref l0), some (.ref l1), none, none, none, some (.int (0 : Int32)), some (.int (0 : Int32)), none, none, none, none]) rfl ?_
  exact (pX18_set_b95 hd N _ _ _ _ _ _ hf).to ⟨rfl, rfl, rfl, rfl, trivial⟩
def fX18_set_b42 (N : Nat) : Nat → Nat → Nat → Nat → Int32 → Int32 → Int32 → eH → Option (Int32 × eH)
  | 0, _, _, _, _, _, _, _ => none
  | n + 1, l0, l1, l2, l3, l4, l5, h =>
    if l3 ≤ l5 then
      (g_I 5 h l1 8).bind fun x2 =>
      if x2 = (-1 : Int32) then
        fX18_set_b89 N l0 l1 h
      else
        (k_ok 17 h l0).bind fun _ =>
        (fX18_link l0 (256 : Int32) l4 h).bind fun q6 =>
        fX18_set_b89 N l0 l1 q6.2
    else
      (r_I 102 h l2 l5).bind fun x7 =>
      (k_ok 17 h l0).bind fun _ =>
      (fX18_link l0 (x7 &&& (255 : Int32)) l4 h).bind fun q10 =>
      fX18_set_b42 N n l0 l1 l2 l3 q10.1 (l5 + (1 : Int32)) q10.2
theorem pX18_set_b42 {w : eW} {d : Nat} (hd : 3 ≤ d + 1) {N : Nat} : ∀ (n : Nat) l0 l1 l2 l3 l4 l5 h q, fX18_set_b42 N n l0 l1 l2 l3 l4 l5 h = some q → wp w (d + 1) YX18_set 42 [some (.ref l0), some (.ref l1), some (.ref l2), some (.int l3), some (.int l4), some (.int l5), none, none, none, none, none] [] h (e_is (e_rn c_I q)) := by
  intro n
  induction n with
  | zero => intro l0 l1 l2 l3 l4 l5 h q hf; simp [fX18_set_b42] at hf
  | succ n ih =>
    intro l0 l1 l2 l3 l4 l5 h q hf
    rw [fX18_set_b42] at hf
    refine w_iload dX18_set_42 rfl ?_
    refine w_iload_n dX18_set_44 rfl rfl ?_
    refine w_icmp_ge 70 dX18_set_45 (by decide) (fun c1 => ?_) (fun c1 => ?_)
    · replace hf := (if_pos (show l3 ≤ l5 from c1)).symm.trans hf
      refine w_aload_n dX18_set_70 rfl rfl ?_
      obtain ⟨x2, b3, hf⟩ := Option.bind_eq_some_iff.mp hf
      refine GX18_40 b3 dX18_set_71 rfl ?_
      refine w_iconst dX18_set_74 (v := -1) (by decide) ?_
      refine w_icmp_eq 89 dX18_set_75 (by decide) (fun c4 => ?_) (fun c4 => ?_)
      · replace hf := (if_pos (show x2 = (-1 : Int32) from c4)).symm.trans hf
        exact (pX18_set_b89 hd hf).to ⟨rfl, rfl, trivial⟩
      · replace hf := (if_neg (show ¬ (x2 = (-1 : Int32)) from c4)).symm.trans hf
        refine w_aload_n dX18_set_78 rfl rfl ?_
        refine w_sipush dX18_set_79 (v := 256) (by decide) ?_
        refine w_iload dX18_set_82 rfl ?_
        obtain ⟨_, b5, hf⟩ := Option.bind_eq_some_iff.mp hf
        refine x_cnI hf (e_stV (Yc := YX18_link) (ci := 17) (av := [.int (256 : Int32), .int l4]) (st := []) dX18_set_84 q2804 mX18_link rfl (k_ok_some b5).1 (k_ok_some b5).2) mX18_link.2.2.1 mX18_link.2.2.2.2.1 (Nat.le_of_ble_eq_true rfl) (Nat.le_of_ble_eq_true rfl) (fun q hq => pX18_link (by omega) hq) (fun q6 hf => ?_)
        refine w_istore dX18_set_87 (by decide) (ls' := [some (.ref l0), some (.ref l1), some (.ref l2), some (.int l3), some (.int q6.1), some (.int l5), none, none, none, none, none]) rfl ?_
        exact (pX18_set_b89 hd hf).to ⟨rfl, rfl, trivial⟩
    · replace hf := (if_neg (show ¬ (l3 ≤ l5) from c1)).symm.trans hf
      refine w_aload_n dX18_set_48 rfl rfl ?_
      refine w_aload_n dX18_set_49 rfl rfl ?_
      refine w_iload dX18_set_50 rfl ?_
      obtain ⟨x7, b8, hf⟩ := Option.bind_eq_some_iff.mp hf
      refine x_rB b8 dX18_set_52 ?_
      refine w_sipush dX18_set_53 (v := 255) (by decide) ?_
      refine w_iand dX18_set_56 ?_
      refine w_iload dX18_set_57 rfl ?_
      obtain ⟨_, b9, hf⟩ := Option.bind_eq_some_iff.mp hf
      refine x_cnI hf (e_stV (Yc := YX18_link) (ci := 17) (av := [.int (x7 &&& (255 : Int32)), .int l4]) (st := []) dX18_set_59 q2804 mX18_link rfl (k_ok_some b9).1 (k_ok_some b9).2) mX18_link.2.2.1 mX18_link.2.2.2.2.1 (Nat.le_of_ble_eq_true rfl) (Nat.le_of_ble_eq_true rfl) (fun q hq => pX18_link (by omega) hq) (fun q10 hf => ?_)
      refine w_istore dX18_set_62 (by decide) (ls' := [some (.ref l0), some (.ref l1), some (.ref l2), some (.int l3), some (.int q10.1), some (.int l5), none, none, none, none, none]) rfl ?_
      refine w_iinc dX18_set_64 (v := (l5 + (1 : Int32))) rfl rfl (by decide) (ls' := [some (.ref l0), some (.ref l1), some (.ref l2), some (.int l3), some (.int q10.1), some (.int (l5 + (1 : Int32))), none, none, none, none, none]) rfl ?_
      refine w_goto 42 dX18_set_67 (by decide) ?_
      exact (ih _ _ _ _ _ _ _ _ hf).to ⟨rfl, rfl, rfl, rfl, rfl, rfl, trivial⟩
def fX18_set_b39 (N : Nat) (l0 : Nat) (l1 : Nat) (l2 : Nat) (l3 : Int32) (l4 : Int32) (h : eH) : Option (Int32 × eH) :=
  fX18_set_b42 N N l0 l1 l2 l3 l4 (0 : Int32) h
theorem pX18_set_b39 {w : eW} {d : Nat} (hd : 3 ≤ d + 1) {N : Nat} {l0 : Nat} {l1 : Nat} {l2 : Nat} {l3 : Int32} {l4 : Int32} {h : eH} {q} (hf : fX18_set_b39 N l0 l1 l2 l3 l4 h = some q) : wp w (d + 1) YX18_set 39 [some (.ref l0), some (.ref l1), some (.ref l2), some (.int l3), some (.int l4), none, none, none, none, none, none] [] h (e_is (e_rn c_I q)) := by
  unfold fX18_set_b39 at hf
  refine w_iconst dX18_set_39 (v := 0) (by decide) ?_
  refine w_istore dX18_set_40 (by decide) (ls' := [some (.ref l0), some (.ref l1), some (.ref l2), some (.int l3), some (.int l4), some (.int (0 : Int32)), none, none, none, none, none]) rfl ?_
  exact (pX18_set_b42 hd N _ _ _ _ _ _ _ _ hf).to ⟨rfl, rfl, rfl, rfl, rfl, rfl, trivial⟩
def fX18_set (N : Nat) (this : Nat) (p0 : Nat) (p1 : Nat) (p2 : Int32) (h : eH) : Option (Int32 × eH) :=
  (p_V 17 h this 3 (.int (0 : Int32))).bind fun h1 =>
  (p_V 17 h1 this 4 (.int (0 : Int32))).bind fun h3 =>
  (k_ok 17 h3 this).bind fun _ =>
  (fX18_link this (257 : Int32) (-1 : Int32) h3).bind fun q6 =>
  (g_I 5 q6.2 p0 9).bind fun x7 =>
  if x7 = (-1 : Int32) then
    fX18_set_b39 N this p0 p1 p2 q6.1 q6.2
  else
    (k_ok 17 q6.2 this).bind fun _ =>
    (fX18_link this (256 : Int32) q6.1 q6.2).bind fun q11 =>
    fX18_set_b39 N this p0 p1 p2 q11.1 q11.2
theorem pX18_set {w : eW} {d : Nat} (hd : 3 ≤ d) {N : Nat} {this : Nat} {p0 : Nat} {p1 : Nat} {p2 : Int32} {h : eH} {q} (hf : fX18_set N this p0 p1 p2 h = some q) : wm w d YX18_set [.ref this, .ref p0, .ref p1, .int p2] h (e_is (e_rn c_I q)) := by
  obtain ⟨d, rfl⟩ : ∃ e, d = e + 1 := ⟨d - 1, by omega⟩
  show wp w (d + 1) YX18_set 0 [some (.ref this), some (.ref p0), some (.ref p1), some (.int p2), none, none, none, none, none, none, none] [] h _
  unfold fX18_set at hf
  refine w_aload_n dX18_set_0 rfl rfl ?_
  refine w_iconst dX18_set_1 (v := 0) (by decide) ?_
  obtain ⟨h1, b2, hf⟩ := Option.bind_eq_some_iff.mp hf
  refine SX18_24 b2 dX18_set_2 rfl ?_
  refine w_aload_n dX18_set_5 rfl rfl ?_
  refine w_iconst dX18_set_6 (v := 0) (by decide) ?_
  obtain ⟨h3, b4, hf⟩ := Option.bind_eq_some_iff.mp hf
  refine SX18_28 b4 dX18_set_7 rfl ?_
  refine w_aload_n dX18_set_10 rfl rfl ?_
  refine w_sipush dX18_set_11 (v := 257) (by decide) ?_
  refine w_iconst dX18_set_14 (v := -1) (by decide) ?_
  obtain ⟨_, b5, hf⟩ := Option.bind_eq_some_iff.mp hf
  refine x_cnI hf (e_stV (Yc := YX18_link) (ci := 17) (av := [.int (257 : Int32), .int (-1 : Int32)]) (st := []) dX18_set_15 q2804 mX18_link rfl (k_ok_some b5).1 (k_ok_some b5).2) mX18_link.2.2.1 mX18_link.2.2.2.2.1 (Nat.le_of_ble_eq_true rfl) (Nat.le_of_ble_eq_true rfl) (fun q hq => pX18_link (by omega) hq) (fun q6 hf => ?_)
  refine w_istore dX18_set_18 (by decide) (ls' := [some (.ref this), some (.ref p0), some (.ref p1), some (.int p2), some (.int q6.1), none, none, none, none, none, none]) rfl ?_
  refine w_aload_n dX18_set_20 rfl rfl ?_
  obtain ⟨x7, b8, hf⟩ := Option.bind_eq_some_iff.mp hf
  refine GX18_35 b8 dX18_set_21 rfl ?_
  refine w_iconst dX18_set_24 (v := -1) (by decide) ?_
  refine w_icmp_eq 39 dX18_set_25 (by decide) (fun c9 => ?_) (fun c9 => ?_)
  · replace hf := (if_pos (show x7 = (-1 : Int32) from c9)).symm.trans hf
    exact (pX18_set_b39 hd hf).to ⟨rfl, rfl, rfl, rfl, rfl, trivial⟩
  · replace hf := (if_neg (show ¬ (x7 = (-1 : Int32)) from c9)).symm.trans hf
    refine w_aload_n dX18_set_28 rfl rfl ?_
    refine w_sipush dX18_set_29 (v := 256) (by decide) ?_
    refine w_iload dX18_set_32 rfl ?_
    obtain ⟨_, b10, hf⟩ := Option.bind_eq_some_iff.mp hf
    refine x_cnI hf (e_stV (Yc := YX18_link) (ci := 17) (av := [.int (256 : Int32), .int q6.1]) (st := []) dX18_set_34 q2804 mX18_link rfl (k_ok_some b10).1 (k_ok_some b10).2) mX18_link.2.2.1 mX18_link.2.2.2.2.1 (Nat.le_of_ble_eq_true rfl) (Nat.le_of_ble_eq_true rfl) (fun q hq => pX18_link (by omega) hq) (fun q11 hf => ?_)
    refine w_istore dX18_set_37 (by decide) (ls' := [some (.ref this), some (.ref p0), some (.ref p1), some (.int p2), some (.int q11.1), none, none, none, none, none, none]) rfl ?_
    exact (pX18_set_b39 hd hf).to ⟨rfl, rfl, rfl, rfl, rfl, trivial⟩
abbrev cX18_item : ByteArray := prog_27_method_7_code
def yX18_item : MethodName := ⟨RX18, "item", "(I)I"⟩
def YX18_item : eY := (yX18_item, cX18_item, 3, (Option.some FieldType.int), [])
theorem mX18_item : e_mv YX18_item RX18 1 := ⟨q2830, q2831, q2832, by decide, by decide +kernel, (e_sig (by decide +kernel))⟩
theorem dX18_item_0 : decode cX18_item 0 = .ok (.aload_n 0, 1) := dc_42 (by decide +kernel)
theorem dX18_item_1 : decode cX18_item 1 = .ok (.getfield 21, 3) := dc_180 (a := 0) (b := 21) (n := 21) (by decide +kernel)
theorem dX18_item_4 : decode cX18_item 4 = .ok (.iload_n 1, 1) := dc_27 (by decide +kernel)
theorem dX18_item_5 : decode cX18_item 5 = .ok (.iaload, 1) := dc_46 (by decide +kernel)
theorem dX18_item_6 : decode cX18_item 6 = .ok (.istore_n 2, 1) := dc_61 (by decide +kernel)
theorem dX18_item_7 : decode cX18_item 7 = .ok (.aload_n 0, 1) := dc_42 (by decide +kernel)
theorem dX18_item_8 : decode cX18_item 8 = .ok (.getfield 11, 3) := dc_180 (a := 0) (b := 11) (n := 11) (by decide +kernel)
theorem dX18_item_11 : decode cX18_item 11 = .ok (.iload_n 2, 1) := dc_28 (by decide +kernel)
theorem dX18_item_12 : decode cX18_item 12 = .ok (.iaload, 1) := dc_46 (by decide +kernel)
theorem dX18_item_13 : decode cX18_item 13 = .ok (.sipush 257, 3) := dc_17 (a := 1) (b := 1) (v := 257) (by decide +kernel)
theorem dX18_item_16 : decode cX18_item 16 = .ok (.if_icmp .ne 12, 3) := dc_160 (a := 0) (b := 12) (v := 12) (by decide +kernel)
theorem dX18_item_19 : decode cX18_item 19 = .ok (.aload_n 0, 1) := dc_42 (by decide +kernel)
theorem dX18_item_20 : decode cX18_item 20 = .ok (.getfield 15, 3) := dc_180 (a := 0) (b := 15) (n := 15) (by decide +kernel)
theorem dX18_item_23 : decode cX18_item 23 = .ok (.iload_n 2, 1) := dc_28 (by decide +kernel)
theorem dX18_item_24 : decode cX18_item 24 = .ok (.iaload, 1) := dc_46 (by decide +kernel)
theorem dX18_item_25 : decode cX18_item 25 = .ok (.goto 9, 3) := dc_167 (a := 0) (b := 9) (v := 9) (by decide +kernel)
theorem dX18_item_28 : decode cX18_item 28 = .ok (.aload_n 0, 1) := dc_42 (by decide +kernel)
theorem dX18_item_29 : decode cX18_item 29 = .ok (.getfield 11, 3) := dc_180 (a := 0) (b := 11) (n := 11) (by decide +kernel)
theorem dX18_item_32 : decode cX18_item 32 = .ok (.iload_n 2, 1) := dc_28 (by decide +kernel)
theorem dX18_item_33 : decode cX18_item 33 = .ok (.iaload, 1) := dc_46 (by decide +kernel)
theorem dX18_item_34 : decode cX18_item 34 = .ok (.ireturn, 1) := dc_172 (by decide +kernel)
def fX18_item_b34 (s0 : Int32) (h : eH) : Option (Int32 × eH) :=
  some (s0, h)
theorem pX18_item_b34 {w : eW} {d : Nat} (hd : 0 ≤ d) {s0 : Int32} {h : eH} {q} (hf : fX18_item_b34 s0 h = some q) : wp w d YX18_item 34 [none, none, none] [.int s0] h (e_is (e_rn c_I q)) := by
  unfold fX18_item_b34 at hf
  cases hf
  exact w_iret dX18_item_34 rfl rfl rfl
def fX18_item (this : Nat) (p0 : Int32) (h : eH) : Option (Int32 × eH) :=
  (g_A 17 h this 5).bind fun a1 =>
  (r_I 100 h a1 p0).bind fun x3 =>
  (g_A 17 h this 0).bind fun a5 =>
  (r_I 100 h a5 x3).bind fun x7 =>
  if ¬ x7 = (257 : Int32) then
    (g_A 17 h this 0).bind fun a10 =>
    (r_I 100 h a10 x3).bind fun x12 =>
    fX18_item_b34 x12 h
  else
    (g_A 17 h this 1).bind fun a14 =>
    (r_I 100 h a14 x3).bind fun x16 =>
    fX18_item_b34 x16 h
theorem pX18_item {w : eW} {d : Nat} (hd : 0 ≤ d) {this : Nat} {p0 : Int32} {h : eH} {q} (hf : fX18_item this p0 h = some q) : wm w d YX18_item [.ref this, .int p0] h (e_is (e_rn c_I q)) := by
  show wp w d YX18_item 0 [some (.ref this), some (.int p0), none] [] h _
  unfold fX18_item at hf
  refine w_aload_n dX18_item_0 rfl rfl ?_
  obtain ⟨a1, b2, hf⟩ := Option.bind_eq_some_iff.mp hf
  refine GX18_21 b2 dX18_item_1 rfl ?_
  refine w_iload_n dX18_item_4 rfl rfl ?_
  obtain ⟨x3, b4, hf⟩ := Option.bind_eq_some_iff.mp hf
  refine x_rI b4 dX18_item_5 ?_
  refine w_istore_n dX18_item_6 rfl (by decide) (ls' := [some (.ref this), some (.int p0), some (.int x3)]) rfl ?_
  refine w_aload_n dX18_item_7 rfl rfl ?_
  obtain ⟨a5, b6, hf⟩ := Option.bind_eq_some_iff.mp hf
  refine GX18_11 b6 dX18_item_8 rfl ?_
  refine w_iload_n dX18_item_11 rfl rfl ?_
  obtain ⟨x7, b8, hf⟩ := Option.bind_eq_some_iff.mp hf
  refine x_rI b8 dX18_item_12 ?_
  refine w_sipush dX18_item_13 (v := 257) (by decide) ?_
  refine w_icmp_ne 28 dX18_item_16 (by decide) (fun c9 => ?_) (fun c9 => ?_)
  · replace hf := (if_pos (show ¬ x7 = (257 : Int32) from c9)).symm.trans hf
    refine w_aload_n dX18_item_28 rfl rfl ?_
    obtain ⟨a10, b11, hf⟩ := Option.bind_eq_some_iff.mp hf
    refine GX18_11 b11 dX18_item_29 rfl ?_
    refine w_iload_n dX18_item_32 rfl rfl ?_
    obtain ⟨x12, b13, hf⟩ := Option.bind_eq_some_iff.mp hf
    refine x_rI b13 dX18_item_33 ?_
    exact (pX18_item_b34 hd hf).to trivial
  · replace hf := (if_neg (show ¬ (¬ x7 = (257 : Int32)) from (fun z => z c9))).symm.trans hf
    refine w_aload_n dX18_item_19 rfl rfl ?_
    obtain ⟨a14, b15, hf⟩ := Option.bind_eq_some_iff.mp hf
    refine GX18_15 b15 dX18_item_20 rfl ?_
    refine w_iload_n dX18_item_23 rfl rfl ?_
    obtain ⟨x16, b17, hf⟩ := Option.bind_eq_some_iff.mp hf
    refine x_rI b17 dX18_item_24 ?_
    refine w_goto 34 dX18_item_25 (by decide) ?_
    exact (pX18_item_b34 hd hf).to trivial
abbrev cX18_isKern : ByteArray := prog_27_method_6_code
def yX18_isKern : MethodName := ⟨RX18, "isKern", "(I)Z"⟩
def YX18_isKern : eY := (yX18_isKern, cX18_isKern, 2, (Option.some FieldType.boolean), [])
theorem mX18_isKern : e_mv YX18_isKern RX18 1 := ⟨q2834, q2835, q2836, by decide, by decide +kernel, (e_sig (by decide +kernel))⟩
theorem dX18_isKern_0 : decode cX18_isKern 0 = .ok (.aload_n 0, 1) := dc_42 (by decide +kernel)
theorem dX18_isKern_1 : decode cX18_isKern 1 = .ok (.getfield 11, 3) := dc_180 (a := 0) (b := 11) (n := 11) (by decide +kernel)
theorem dX18_isKern_4 : decode cX18_isKern 4 = .ok (.aload_n 0, 1) := dc_42 (by decide +kernel)
theorem dX18_isKern_5 : decode cX18_isKern 5 = .ok (.getfield 21, 3) := dc_180 (a := 0) (b := 21) (n := 21) (by decide +kernel)
theorem dX18_isKern_8 : decode cX18_isKern 8 = .ok (.iload_n 1, 1) := dc_27 (by decide +kernel)
theorem dX18_isKern_9 : decode cX18_isKern 9 = .ok (.iaload, 1) := dc_46 (by decide +kernel)
theorem dX18_isKern_10 : decode cX18_isKern 10 = .ok (.iaload, 1) := dc_46 (by decide +kernel)
theorem dX18_isKern_11 : decode cX18_isKern 11 = .ok (.sipush 257, 3) := dc_17 (a := 1) (b := 1) (v := 257) (by decide +kernel)
theorem dX18_isKern_14 : decode cX18_isKern 14 = .ok (.if_icmp .ne 7, 3) := dc_160 (a := 0) (b := 7) (v := 7) (by decide +kernel)
theorem dX18_isKern_17 : decode cX18_isKern 17 = .ok (.iconst 1, 1) := dc_4 (by decide +kernel)
theorem dX18_isKern_18 : decode cX18_isKern 18 = .ok (.goto 4, 3) := dc_167 (a := 0) (b := 4) (v := 4) (by decide +kernel)
theorem dX18_isKern_21 : decode cX18_isKern 21 = .ok (.iconst 0, 1) := dc_3 (by decide +kernel)
theorem dX18_isKern_22 : decode cX18_isKern 22 = .ok (.ireturn, 1) := dc_172 (by decide +kernel)
def fX18_isKern_b22 (s0 : Int32) (h : eH) : Option (Int32 × eH) :=
  z_r s0 (s0, h)
theorem pX18_isKern_b22 {w : eW} {d : Nat} (hd : 0 ≤ d) {s0 : Int32} {h : eH} {q} (hf : fX18_isKern_b22 s0 h = some q) : wp w d YX18_isKern 22 [none, none] [.int s0] h (e_is (e_rn c_I q)) := by
  unfold fX18_isKern_b22 at hf
  obtain ⟨b1, rfl⟩ := z_r_some hf
  exact w_iret dX18_isKern_22 rfl b1 rfl
def fX18_isKern (this : Nat) (p0 : Int32) (h : eH) : Option (Int32 × eH) :=
  (g_A 17 h this 0).bind fun a1 =>
  (g_A 17 h this 5).bind fun a3 =>
  (r_I 100 h a3 p0).bind fun x5 =>
  (r_I 100 h a1 x5).bind fun x7 =>
  if ¬ x7 = (257 : Int32) then
    fX18_isKern_b22 (0 : Int32) h
  else
    fX18_isKern_b22 (1 : Int32) h
theorem pX18_isKern {w : eW} {d : Nat} (hd : 0 ≤ d) {this : Nat} {p0 : Int32} {h : eH} {q} (hf : fX18_isKern this p0 h = some q) : wm w d YX18_isKern [.ref this, .int p0] h (e_is (e_rn c_I q)) := by
  show wp w d YX18_isKern 0 [some (.ref this), some (.int p0)] [] h _
  unfold fX18_isKern at hf
  refine w_aload_n dX18_isKern_0 rfl rfl ?_
  obtain ⟨a1, b2, hf⟩ := Option.bind_eq_some_iff.mp hf
  refine GX18_11 b2 dX18_isKern_1 rfl ?_
  refine w_aload_n dX18_isKern_4 rfl rfl ?_
  obtain ⟨a3, b4, hf⟩ := Option.bind_eq_some_iff.mp hf
  refine GX18_21 b4 dX18_isKern_5 rfl ?_
  refine w_iload_n dX18_isKern_8 rfl rfl ?_
  obtain ⟨x5, b6, hf⟩ := Option.bind_eq_some_iff.mp hf
  refine x_rI b6 dX18_isKern_9 ?_
  obtain ⟨x7, b8, hf⟩ := Option.bind_eq_some_iff.mp hf
  refine x_rI b8 dX18_isKern_10 ?_
  refine w_sipush dX18_isKern_11 (v := 257) (by decide) ?_
  refine w_icmp_ne 21 dX18_isKern_14 (by decide) (fun c9 => ?_) (fun c9 => ?_)
  · replace hf := (if_pos (show ¬ x7 = (257 : Int32) from c9)).symm.trans hf
    refine w_iconst dX18_isKern_21 (v := 0) (by decide) ?_
    exact (pX18_isKern_b22 hd hf).to trivial
  · replace hf := (if_neg (show ¬ (¬ x7 = (257 : Int32)) from (fun z => z c9))).symm.trans hf
    refine w_iconst dX18_isKern_17 (v := 1) (by decide) ?_
    refine w_goto 22 dX18_isKern_18 (by decide) ?_
    exact (pX18_isKern_b22 hd hf).to trivial
abbrev cX34_add : ByteArray := prog_13_method_2_code
def yX34_add : MethodName := ⟨RX34, "add", "(IIIIII)V"⟩
def YX34_add : eY := (yX34_add, cX34_add, 8, none, [])
theorem mX34_add : e_mv YX34_add RX34 6 := ⟨q2838, q2839, q2840, by decide, by decide +kernel, (e_sig (by decide +kernel))⟩
theorem dX34_add_0 : decode cX34_add 0 = .ok (.aload_n 0, 1) := dc_42 (by decide +kernel)
theorem dX34_add_1 : decode cX34_add 1 = .ok (.aload_n 0, 1) := dc_42 (by decide +kernel)
theorem dX34_add_2 : decode cX34_add 2 = .ok (.getfield 9, 3) := dc_180 (a := 0) (b := 9) (n := 9) (by decide +kernel)
theorem dX34_add_5 : decode cX34_add 5 = .ok (.bipush 6, 2) := dc_16 (a := 6) (v := 6) (by decide +kernel)
theorem dX34_add_7 : decode cX34_add 7 = .ok (.aload_n 0, 1) := dc_42 (by decide +kernel)
theorem dX34_add_8 : decode cX34_add 8 = .ok (.getfield 13, 3) := dc_180 (a := 0) (b := 13) (n := 13) (by decide +kernel)
theorem dX34_add_11 : decode cX34_add 11 = .ok (.iconst 1, 1) := dc_4 (by decide +kernel)
theorem dX34_add_12 : decode cX34_add 12 = .ok (.iadd, 1) := dc_96 (by decide +kernel)
theorem dX34_add_13 : decode cX34_add 13 = .ok (.imul, 1) := dc_104 (by decide +kernel)
theorem dX34_add_14 : decode cX34_add 14 = .ok (.invokestatic 17, 3) := dc_184 (a := 0) (b := 17) (n := 17) (by decide +kernel)
theorem dX34_add_17 : decode cX34_add 17 = .ok (.putfield 9, 3) := dc_181 (a := 0) (b := 9) (n := 9) (by decide +kernel)
theorem dX34_add_20 : decode cX34_add 20 = .ok (.bipush 6, 2) := dc_16 (a := 6) (v := 6) (by decide +kernel)
theorem dX34_add_22 : decode cX34_add 22 = .ok (.aload_n 0, 1) := dc_42 (by decide +kernel)
theorem dX34_add_23 : decode cX34_add 23 = .ok (.dup, 1) := dc_89 (by decide +kernel)
theorem dX34_add_24 : decode cX34_add 24 = .ok (.getfield 13, 3) := dc_180 (a := 0) (b := 13) (n := 13) (by decide +kernel)
theorem dX34_add_27 : decode cX34_add 27 = .ok (.dup_x1, 1) := dc_90 (by decide +kernel)
theorem dX34_add_28 : decode cX34_add 28 = .ok (.iconst 1, 1) := dc_4 (by decide +kernel)
theorem dX34_add_29 : decode cX34_add 29 = .ok (.iadd, 1) := dc_96 (by decide +kernel)
theorem dX34_add_30 : decode cX34_add 30 = .ok (.putfield 13, 3) := dc_181 (a := 0) (b := 13) (n := 13) (by decide +kernel)
theorem dX34_add_33 : decode cX34_add 33 = .ok (.imul, 1) := dc_104 (by decide +kernel)
theorem dX34_add_34 : decode cX34_add 34 = .ok (.istore 7, 2) := dc_54 (a := 7) (by decide +kernel)
theorem dX34_add_36 : decode cX34_add 36 = .ok (.aload_n 0, 1) := dc_42 (by decide +kernel)
theorem dX34_add_37 : decode cX34_add 37 = .ok (.getfield 9, 3) := dc_180 (a := 0) (b := 9) (n := 9) (by decide +kernel)
theorem dX34_add_40 : decode cX34_add 40 = .ok (.iload 7, 2) := dc_21 (a := 7) (by decide +kernel)
theorem dX34_add_42 : decode cX34_add 42 = .ok (.iload_n 1, 1) := dc_27 (by decide +kernel)
theorem dX34_add_43 : decode cX34_add 43 = .ok (.iastore, 1) := dc_79 (by decide +kernel)
theorem dX34_add_44 : decode cX34_add 44 = .ok (.aload_n 0, 1) := dc_42 (by decide +kernel)
theorem dX34_add_45 : decode cX34_add 45 = .ok (.getfield 9, 3) := dc_180 (a := 0) (b := 9) (n := 9) (by decide +kernel)
theorem dX34_add_48 : decode cX34_add 48 = .ok (.iload 7, 2) := dc_21 (a := 7) (by decide +kernel)
theorem dX34_add_50 : decode cX34_add 50 = .ok (.iconst 1, 1) := dc_4 (by decide +kernel)
theorem dX34_add_51 : decode cX34_add 51 = .ok (.iadd, 1) := dc_96 (by decide +kernel)
theorem dX34_add_52 : decode cX34_add 52 = .ok (.iload_n 2, 1) := dc_28 (by decide +kernel)
theorem dX34_add_53 : decode cX34_add 53 = .ok (.iastore, 1) := dc_79 (by decide +kernel)
theorem dX34_add_54 : decode cX34_add 54 = .ok (.aload_n 0, 1) := dc_42 (by decide +kernel)
theorem dX34_add_55 : decode cX34_add 55 = .ok (.getfield 9, 3) := dc_180 (a := 0) (b := 9) (n := 9) (by decide +kernel)
theorem dX34_add_58 : decode cX34_add 58 = .ok (.iload 7, 2) := dc_21 (a := 7) (by decide +kernel)
theorem dX34_add_60 : decode cX34_add 60 = .ok (.iconst 2, 1) := dc_5 (by decide +kernel)
theorem dX34_add_61 : decode cX34_add 61 = .ok (.iadd, 1) := dc_96 (by decide +kernel)
theorem dX34_add_62 : decode cX34_add 62 = .ok (.iload_n 3, 1) := dc_29 (by decide +kernel)
theorem dX34_add_63 : decode cX34_add 63 = .ok (.iastore, 1) := dc_79 (by decide +kernel)
theorem dX34_add_64 : decode cX34_add 64 = .ok (.aload_n 0, 1) := dc_42 (by decide +kernel)
theorem dX34_add_65 : decode cX34_add 65 = .ok (.getfield 9, 3) := dc_180 (a := 0) (b := 9) (n := 9) (by decide +kernel)
theorem dX34_add_68 : decode cX34_add 68 = .ok (.iload 7, 2) := dc_21 (a := 7) (by decide +kernel)
theorem dX34_add_70 : decode cX34_add 70 = .ok (.iconst 3, 1) := dc_6 (by decide +kernel)
theorem dX34_add_71 : decode cX34_add 71 = .ok (.iadd, 1) := dc_96 (by decide +kernel)
theorem dX34_add_72 : decode cX34_add 72 = .ok (.iload 4, 2) := dc_21 (a := 4) (by decide +kernel)
theorem dX34_add_74 : decode cX34_add 74 = .ok (.iastore, 1) := dc_79 (by decide +kernel)
theorem dX34_add_75 : decode cX34_add 75 = .ok (.aload_n 0, 1) := dc_42 (by decide +kernel)
theorem dX34_add_76 : decode cX34_add 76 = .ok (.getfield 9, 3) := dc_180 (a := 0) (b := 9) (n := 9) (by decide +kernel)
theorem dX34_add_79 : decode cX34_add 79 = .ok (.iload 7, 2) := dc_21 (a := 7) (by decide +kernel)
theorem dX34_add_81 : decode cX34_add 81 = .ok (.iconst 4, 1) := dc_7 (by decide +kernel)
theorem dX34_add_82 : decode cX34_add 82 = .ok (.iadd, 1) := dc_96 (by decide +kernel)
theorem dX34_add_83 : decode cX34_add 83 = .ok (.iload 5, 2) := dc_21 (a := 5) (by decide +kernel)
theorem dX34_add_85 : decode cX34_add 85 = .ok (.iastore, 1) := dc_79 (by decide +kernel)
theorem dX34_add_86 : decode cX34_add 86 = .ok (.aload_n 0, 1) := dc_42 (by decide +kernel)
theorem dX34_add_87 : decode cX34_add 87 = .ok (.getfield 9, 3) := dc_180 (a := 0) (b := 9) (n := 9) (by decide +kernel)
theorem dX34_add_90 : decode cX34_add 90 = .ok (.iload 7, 2) := dc_21 (a := 7) (by decide +kernel)
theorem dX34_add_92 : decode cX34_add 92 = .ok (.iconst 5, 1) := dc_8 (by decide +kernel)
theorem dX34_add_93 : decode cX34_add 93 = .ok (.iadd, 1) := dc_96 (by decide +kernel)
theorem dX34_add_94 : decode cX34_add 94 = .ok (.iload 6, 2) := dc_21 (a := 6) (by decide +kernel)
theorem dX34_add_96 : decode cX34_add 96 = .ok (.iastore, 1) := dc_79 (by decide +kernel)
theorem dX34_add_97 : decode cX34_add 97 = .ok (.return_, 1) := dc_177 (by decide +kernel)
theorem GX34_13 {w : eW} {d : Nat} {Y : eY} {pc : Nat} {ls : eL} {st : List Value} {h : eH} {Q : eO → eH → Prop} {a : Nat} {x : Int32} (hf : g_I 33 h a 1 = some x) (hd : decode Y.2.1 pc = .ok (.getfield 13, 3)) (hY : Y.1.cls = RX34) (kk : wp w d Y (pc + 3) ls (.int x :: st) h Q) : wp w d Y pc ls (.ref a :: st) h Q := x_gI (ci := 33) (k := 1) hf hd rfl (by decide) (by rw [hY]; exact q1780) kk
theorem GX34_9 {w : eW} {d : Nat} {Y : eY} {pc : Nat} {ls : eL} {st : List Value} {h : eH} {Q : eO → eH → Prop} {a : Nat} {x : Nat} (hf : g_A 33 h a 0 = some x) (hd : decode Y.2.1 pc = .ok (.getfield 9, 3)) (hY : Y.1.cls = RX34) (kk : wp w d Y (pc + 3) ls (.ref x :: st) h Q) : wp w d Y pc ls (.ref a :: st) h Q := x_gA (ci := 33) (k := 0) hf hd rfl (by decide) (by rw [hY]; exact q1779) kk
theorem SX34_13 {w : eW} {d : Nat} {Y : eY} {pc : Nat} {ls : eL} {st : List Value} {h : eH} {Q : eO → eH → Prop} {a : Nat} {h' : eH} {x : Int32} (hf : p_V 33 h a 1 (.int x) = some h') (hd : decode Y.2.1 pc = .ok (.putfield 13, 3)) (hY : Y.1.cls = RX34) (kk : wp w d Y (pc + 3) ls st h' Q) : wp w d Y pc ls (.int x :: .ref a :: st) h Q := x_pI (ci := 33) (k := 1) hf hd rfl (by decide) (by rw [hY]; exact q1780) rfl rfl kk
def fX34_add (this : Nat) (p0 : Int32) (p1 : Int32) (p2 : Int32) (p3 : Int32) (p4 : Int32) (p5 : Int32) (h : eH) : Option (Unit × eH) :=
  (g_A 33 h this 0).bind fun a1 =>
  (g_I 33 h this 1).bind fun x3 =>
  (fX1_grown a1 ((6 : Int32) * (x3 + (1 : Int32))) h).bind fun q5 =>
  (p_V 33 q5.2 this 0 (.ref q5.1)).bind fun h6 =>
  (g_I 33 h6 this 1).bind fun x8 =>
  (p_V 33 h6 this 1 (.int (x8 + (1 : Int32)))).bind fun h10 =>
  (g_A 33 h10 this 0).bind fun a12 =>
  (q_V 100 h10 a12 ((6 : Int32) * x8) (.int p0)).bind fun h14 =>
  (g_A 33 h14 this 0).bind fun a16 =>
  (q_V 100 h14 a16 (((6 : Int32) * x8) + (1 : Int32)) (.int p1)).bind fun h18 =>
  (g_A 33 h18 this 0).bind fun a20 =>
  (q_V 100 h18 a20 (((6 : Int32) * x8) + (2 : Int32)) (.int p2)).bind fun h22 =>
  (g_A 33 h22 this 0).bind fun a24 =>
  (q_V 100 h22 a24 (((6 : Int32) * x8) + (3 : Int32)) (.int p3)).bind fun h26 =>
  (g_A 33 h26 this 0).bind fun a28 =>
  (q_V 100 h26 a28 (((6 : Int32) * x8) + (4 : Int32)) (.int p4)).bind fun h30 =>
  (g_A 33 h30 this 0).bind fun a32 =>
  (q_V 100 h30 a32 (((6 : Int32) * x8) + (5 : Int32)) (.int p5)).bind fun h34 =>
  some ((), h34)
theorem pX34_add {w : eW} {d : Nat} (hd : 2 ≤ d) {this : Nat} {p0 : Int32} {p1 : Int32} {p2 : Int32} {p3 : Int32} {p4 : Int32} {p5 : Int32} {h : eH} {q} (hf : fX34_add this p0 p1 p2 p3 p4 p5 h = some q) : wm w d YX34_add [.ref this, .int p0, .int p1, .int p2, .int p3, .int p4, .int p5] h (e_is (e_rn c_V q)) := by
  obtain ⟨d, rfl⟩ : ∃ e, d = e + 1 := ⟨d - 1, by omega⟩
  show wp w (d + 1) YX34_add 0 [some (.ref this), some (.int p0), some (.int p1), some (.int p2), some (.int p3), some (.int p4), some (.int p5), none] [] h _
  unfold fX34_add at hf
  refine w_aload_n dX34_add_0 rfl rfl ?_
  refine w_aload_n dX34_add_1 rfl rfl ?_
  obtain ⟨a1, b2, hf⟩ := Option.bind_eq_some_iff.mp hf
  refine GX34_9 b2 dX34_add_2 rfl ?_
  refine w_bipush dX34_add_5 (v := 6) (by decide) ?_
  refine w_aload_n dX34_add_7 rfl rfl ?_
  obtain ⟨x3, b4, hf⟩ := Option.bind_eq_some_iff.mp hf
  refine GX34_13 b4 dX34_add_8 rfl ?_
  refine w_iconst dX34_add_11 (v := 1) (by decide) ?_
  refine w_iadd dX34_add_12 ?_
  refine w_imul dX34_add_13 ?_
  refine x_cnA hf (e_stSN (Yc := YX1_grown) (av := [.ref a1, .int ((6 : Int32) * (x3 + (1 : Int32)))]) (st := [.ref this]) dX34_add_14 q2841 mX1_grown) mX1_grown.2.2.1 mX1_grown.2.2.2.2.1 (Nat.le_of_ble_eq_true rfl) (Nat.le_of_ble_eq_true rfl) (fun q hq => pX1_grown (by omega) hq) (fun q5 hf => ?_)
  obtain ⟨h6, b7, hf⟩ := Option.bind_eq_some_iff.mp hf
  refine SX34_9 b7 dX34_add_17 rfl ?_
  refine w_bipush dX34_add_20 (v := 6) (by decide) ?_
  refine w_aload_n dX34_add_22 rfl rfl ?_
  refine w_dup dX34_add_23 rfl ?_
  obtain ⟨x8, b9, hf⟩ := Option.bind_eq_some_iff.mp hf
  refine GX34_13 b9 dX34_add_24 rfl ?_
  refine w_dup_x1 dX34_add_27 rfl rfl ?_
  refine w_iconst dX34_add_28 (v := 1) (by decide) ?_
  refine w_iadd dX34_add_29 ?_
  obtain ⟨h10, b11, hf⟩ := Option.bind_eq_some_iff.mp hf
  refine SX34_13 b11 dX34_add_30 rfl ?_
  refine w_imul dX34_add_33 ?_
  refine w_istore dX34_add_34 (by decide) (ls' := [some (.ref this), some (.int p0), some (.int p1), some (.int p2), some (.int p3), some (.int p4), some (.int p5), some (.int ((6 : Int32) * x8))]) rfl ?_
  refine w_aload_n dX34_add_36 rfl rfl ?_
  obtain ⟨a12, b13, hf⟩ := Option.bind_eq_some_iff.mp hf
  refine GX34_9 b13 dX34_add_37 rfl ?_
  refine w_iload dX34_add_40 rfl ?_
  refine w_iload_n dX34_add_42 rfl rfl ?_
  obtain ⟨h14, b15, hf⟩ := Option.bind_eq_some_iff.mp hf
  refine x_qI b15 dX34_add_43 ?_
  refine w_aload_n dX34_add_44 rfl rfl ?_
  obtain ⟨a16, b17, hf⟩ := Option.bind_eq_some_iff.mp hf
  refine GX34_9 b17 dX34_add_45 rfl ?_
  refine w_iload dX34_add_48 rfl ?_
  refine w_iconst dX34_add_50 (v := 1) (by decide) ?_
  refine w_iadd dX34_add_51 ?_
  refine w_iload_n dX34_add_52 rfl rfl ?_
  obtain ⟨h18, b19, hf⟩ := Option.bind_eq_some_iff.mp hf
  refine x_qI b19 dX34_add_53 ?_
  refine w_aload_n dX34_add_54 rfl rfl ?_
  obtain ⟨a20, b21, hf⟩ := Option.bind_eq_some_iff.mp hf
  refine GX34_9 b21 dX34_add_55 rfl ?_
  refine w_iload dX34_add_58 rfl ?_
  refine w_iconst dX34_add_60 (v := 2) (by decide) ?_
  refine w_iadd dX34_add_61 ?_
  refine w_iload_n dX34_add_62 rfl rfl ?_
  obtain ⟨h22, b23, hf⟩ := Option.bind_eq_some_iff.mp hf
  refine x_qI b23 dX34_add_63 ?_
  refine w_aload_n dX34_add_64 rfl rfl ?_
  obtain ⟨a24, b25, hf⟩ := Option.bind_eq_some_iff.mp hf
  refine GX34_9 b25 dX34_add_65 rfl ?_
  refine w_iload dX34_add_68 rfl ?_
  refine w_iconst dX34_add_70 (v := 3) (by decide) ?_
  refine w_iadd dX34_add_71 ?_
  refine w_iload dX34_add_72 rfl ?_
  obtain ⟨h26, b27, hf⟩ := Option.bind_eq_some_iff.mp hf
  refine x_qI b27 dX34_add_74 ?_
  refine w_aload_n dX34_add_75 rfl rfl ?_
  obtain ⟨a28, b29, hf⟩ := Option.bind_eq_some_iff.mp hf
  refine GX34_9 b29 dX34_add_76 rfl ?_
  refine w_iload dX34_add_79 rfl ?_
  refine w_iconst dX34_add_81 (v := 4) (by decide) ?_
  refine w_iadd dX34_add_82 ?_
  refine w_iload dX34_add_83 rfl ?_
  obtain ⟨h30, b31, hf⟩ := Option.bind_eq_some_iff.mp hf
  refine x_qI b31 dX34_add_85 ?_
  refine w_aload_n dX34_add_86 rfl rfl ?_
  obtain ⟨a32, b33, hf⟩ := Option.bind_eq_some_iff.mp hf
  refine GX34_9 b33 dX34_add_87 rfl ?_
  refine w_iload dX34_add_90 rfl ?_
  refine w_iconst dX34_add_92 (v := 5) (by decide) ?_
  refine w_iadd dX34_add_93 ?_
  refine w_iload dX34_add_94 rfl ?_
  obtain ⟨h34, b35, hf⟩ := Option.bind_eq_some_iff.mp hf
  refine x_qI b35 dX34_add_96 ?_
  cases hf
  exact w_vret dX34_add_97 rfl rfl
abbrev cX6_of : ByteArray := prog_7_method_24_code
def yX6_of : MethodName := ⟨RX6, "of", "(II)I"⟩
def YX6_of : eY := (yX6_of, cX6_of, 4, (Option.some FieldType.int), [])
theorem mX6_of : e_mv YX6_of RX6 2 := ⟨q2843, q2844, q2845, by decide, by decide +kernel, (e_sig (by decide +kernel))⟩
theorem dX6_of_0 : decode cX6_of 0 = .ok (.aload_n 0, 1) := dc_42 (by decide +kernel)
theorem dX6_of_1 : decode cX6_of 1 = .ok (.iconst 1, 1) := dc_4 (by decide +kernel)
theorem dX6_of_2 : decode cX6_of 2 = .ok (.iload_n 1, 1) := dc_27 (by decide +kernel)
theorem dX6_of_3 : decode cX6_of 3 = .ok (.aload_n 0, 1) := dc_42 (by decide +kernel)
theorem dX6_of_4 : decode cX6_of 4 = .ok (.getfield 25, 3) := dc_180 (a := 0) (b := 25) (n := 25) (by decide +kernel)
theorem dX6_of_7 : decode cX6_of 7 = .ok (.isub, 1) := dc_100 (by decide +kernel)
theorem dX6_of_8 : decode cX6_of 8 = .ok (.invokevirtual 32, 3) := dc_182 (a := 0) (b := 32) (n := 32) (by decide +kernel)
theorem dX6_of_11 : decode cX6_of 11 = .ok (.istore_n 3, 1) := dc_62 (by decide +kernel)
theorem dX6_of_12 : decode cX6_of 12 = .ok (.iload_n 2, 1) := dc_28 (by decide +kernel)
theorem dX6_of_13 : decode cX6_of 13 = .ok (.tableswitch 117 0 4 #[35, 52, 72, 92, 111], 35) := by decide +kernel
theorem dX6_of_48 : decode cX6_of 48 = .ok (.aload_n 0, 1) := dc_42 (by decide +kernel)
theorem dX6_of_49 : decode cX6_of 49 = .ok (.getfield 15, 3) := dc_180 (a := 0) (b := 15) (n := 15) (by decide +kernel)
theorem dX6_of_52 : decode cX6_of 52 = .ok (.aload_n 0, 1) := dc_42 (by decide +kernel)
theorem dX6_of_53 : decode cX6_of 53 = .ok (.getfield 18, 3) := dc_180 (a := 0) (b := 18) (n := 18) (by decide +kernel)
theorem dX6_of_56 : decode cX6_of 56 = .ok (.iconst 2, 1) := dc_5 (by decide +kernel)
theorem dX6_of_57 : decode cX6_of 57 = .ok (.iaload, 1) := dc_46 (by decide +kernel)
theorem dX6_of_58 : decode cX6_of 58 = .ok (.iload_n 3, 1) := dc_29 (by decide +kernel)
theorem dX6_of_59 : decode cX6_of 59 = .ok (.invokestatic 36, 3) := dc_184 (a := 0) (b := 36) (n := 36) (by decide +kernel)
theorem dX6_of_62 : decode cX6_of 62 = .ok (.iadd, 1) := dc_96 (by decide +kernel)
theorem dX6_of_63 : decode cX6_of 63 = .ok (.iaload, 1) := dc_46 (by decide +kernel)
theorem dX6_of_64 : decode cX6_of 64 = .ok (.ireturn, 1) := dc_172 (by decide +kernel)
theorem dX6_of_65 : decode cX6_of 65 = .ok (.aload_n 0, 1) := dc_42 (by decide +kernel)
theorem dX6_of_66 : decode cX6_of 66 = .ok (.getfield 15, 3) := dc_180 (a := 0) (b := 15) (n := 15) (by decide +kernel)
theorem dX6_of_69 : decode cX6_of 69 = .ok (.aload_n 0, 1) := dc_42 (by decide +kernel)
theorem dX6_of_70 : decode cX6_of 70 = .ok (.getfield 18, 3) := dc_180 (a := 0) (b := 18) (n := 18) (by decide +kernel)
theorem dX6_of_73 : decode cX6_of 73 = .ok (.iconst 3, 1) := dc_6 (by decide +kernel)
theorem dX6_of_74 : decode cX6_of 74 = .ok (.iaload, 1) := dc_46 (by decide +kernel)
theorem dX6_of_75 : decode cX6_of 75 = .ok (.iload_n 3, 1) := dc_29 (by decide +kernel)
theorem dX6_of_76 : decode cX6_of 76 = .ok (.invokestatic 53, 3) := dc_184 (a := 0) (b := 53) (n := 53) (by decide +kernel)
theorem dX6_of_79 : decode cX6_of 79 = .ok (.bipush 16, 2) := dc_16 (a := 16) (v := 16) (by decide +kernel)
theorem dX6_of_81 : decode cX6_of 81 = .ok (.idiv, 1) := dc_108 (by decide +kernel)
theorem dX6_of_82 : decode cX6_of 82 = .ok (.iadd, 1) := dc_96 (by decide +kernel)
theorem dX6_of_83 : decode cX6_of 83 = .ok (.iaload, 1) := dc_46 (by decide +kernel)
theorem dX6_of_84 : decode cX6_of 84 = .ok (.ireturn, 1) := dc_172 (by decide +kernel)
theorem dX6_of_85 : decode cX6_of 85 = .ok (.aload_n 0, 1) := dc_42 (by decide +kernel)
theorem dX6_of_86 : decode cX6_of 86 = .ok (.getfield 15, 3) := dc_180 (a := 0) (b := 15) (n := 15) (by decide +kernel)
theorem dX6_of_89 : decode cX6_of 89 = .ok (.aload_n 0, 1) := dc_42 (by decide +kernel)
theorem dX6_of_90 : decode cX6_of 90 = .ok (.getfield 18, 3) := dc_180 (a := 0) (b := 18) (n := 18) (by decide +kernel)
theorem dX6_of_93 : decode cX6_of 93 = .ok (.iconst 4, 1) := dc_7 (by decide +kernel)
theorem dX6_of_94 : decode cX6_of 94 = .ok (.iaload, 1) := dc_46 (by decide +kernel)
theorem dX6_of_95 : decode cX6_of 95 = .ok (.iload_n 3, 1) := dc_29 (by decide +kernel)
theorem dX6_of_96 : decode cX6_of 96 = .ok (.invokestatic 53, 3) := dc_184 (a := 0) (b := 53) (n := 53) (by decide +kernel)
theorem dX6_of_99 : decode cX6_of 99 = .ok (.bipush 16, 2) := dc_16 (a := 16) (v := 16) (by decide +kernel)
theorem dX6_of_101 : decode cX6_of 101 = .ok (.irem, 1) := dc_112 (by decide +kernel)
theorem dX6_of_102 : decode cX6_of 102 = .ok (.iadd, 1) := dc_96 (by decide +kernel)
theorem dX6_of_103 : decode cX6_of 103 = .ok (.iaload, 1) := dc_46 (by decide +kernel)
theorem dX6_of_104 : decode cX6_of 104 = .ok (.ireturn, 1) := dc_172 (by decide +kernel)
theorem dX6_of_105 : decode cX6_of 105 = .ok (.aload_n 0, 1) := dc_42 (by decide +kernel)
theorem dX6_of_106 : decode cX6_of 106 = .ok (.getfield 15, 3) := dc_180 (a := 0) (b := 15) (n := 15) (by decide +kernel)
theorem dX6_of_109 : decode cX6_of 109 = .ok (.aload_n 0, 1) := dc_42 (by decide +kernel)
theorem dX6_of_110 : decode cX6_of 110 = .ok (.getfield 18, 3) := dc_180 (a := 0) (b := 18) (n := 18) (by decide +kernel)
theorem dX6_of_113 : decode cX6_of 113 = .ok (.iconst 5, 1) := dc_8 (by decide +kernel)
theorem dX6_of_114 : decode cX6_of 114 = .ok (.iaload, 1) := dc_46 (by decide +kernel)
theorem dX6_of_115 : decode cX6_of 115 = .ok (.iload_n 3, 1) := dc_29 (by decide +kernel)
theorem dX6_of_116 : decode cX6_of 116 = .ok (.invokestatic 56, 3) := dc_184 (a := 0) (b := 56) (n := 56) (by decide +kernel)
theorem dX6_of_119 : decode cX6_of 119 = .ok (.iconst 4, 1) := dc_7 (by decide +kernel)
theorem dX6_of_120 : decode cX6_of 120 = .ok (.idiv, 1) := dc_108 (by decide +kernel)
theorem dX6_of_121 : decode cX6_of 121 = .ok (.iadd, 1) := dc_96 (by decide +kernel)
theorem dX6_of_122 : decode cX6_of 122 = .ok (.iaload, 1) := dc_46 (by decide +kernel)
theorem dX6_of_123 : decode cX6_of 123 = .ok (.ireturn, 1) := dc_172 (by decide +kernel)
theorem dX6_of_124 : decode cX6_of 124 = .ok (.aload_n 0, 1) := dc_42 (by decide +kernel)
theorem dX6_of_125 : decode cX6_of 125 = .ok (.iload_n 1, 1) := dc_27 (by decide +kernel)
theorem dX6_of_126 : decode cX6_of 126 = .ok (.invokevirtual 69, 3) := dc_182 (a := 0) (b := 69) (n := 69) (by decide +kernel)
theorem dX6_of_129 : decode cX6_of 129 = .ok (.ireturn, 1) := dc_172 (by decide +kernel)
theorem dX6_of_130 : decode cX6_of 130 = .ok (.aload_n 0, 1) := dc_42 (by decide +kernel)
theorem dX6_of_131 : decode cX6_of 131 = .ok (.iload_n 1, 1) := dc_27 (by decide +kernel)
theorem dX6_of_132 : decode cX6_of 132 = .ok (.invokevirtual 62, 3) := dc_182 (a := 0) (b := 62) (n := 62) (by decide +kernel)
theorem dX6_of_135 : decode cX6_of 135 = .ok (.ireturn, 1) := dc_172 (by decide +kernel)
def fX6_of (this : Nat) (p0 : Int32) (p1 : Int32) (h : eH) : Option (Int32 × eH) :=
  (g_I 5 h this 4).bind fun x1 =>
  (k_ok 5 h this).bind fun _ =>
  (fX6_word this (1 : Int32) (p0 - x1) h).bind fun q4 =>
  if p1 = (0 : Int32) then
    (g_A 5 q4.2 this 1).bind fun a6 =>
    (g_A 5 q4.2 this 2).bind fun a8 =>
    (r_I 100 q4.2 a8 (2 : Int32)).bind fun x10 =>
    (fX6_a q4.1 q4.2).bind fun q12 =>
    (r_I 100 q12.2 a6 (x10 + q12.1)).bind fun x13 =>
    some (x13, q12.2)
  else
  if p1 = (1 : Int32) then
    (g_A 5 q4.2 this 1).bind fun a16 =>
    (g_A 5 q4.2 this 2).bind fun a18 =>
    (r_I 100 q4.2 a18 (3 : Int32)).bind fun x20 =>
    (fX6_b q4.1 q4.2).bind fun q22 =>
    (r_I 100 q22.2 a16 (x20 + (q22.1 / (16 : Int32)))).bind fun x23 =>
    some (x23, q22.2)
  else
  if p1 = (2 : Int32) then
    (g_A 5 q4.2 this 1).bind fun a26 =>
    (g_A 5 q4.2 this 2).bind fun a28 =>
    (r_I 100 q4.2 a28 (4 : Int32)).bind fun x30 =>
    (fX6_b q4.1 q4.2).bind fun q32 =>
    (r_I 100 q32.2 a26 (x30 + (q32.1 - q32.1 / (16 : Int32) * (16 : Int32)))).bind fun x33 =>
    some (x33, q32.2)
  else
  if p1 = (3 : Int32) then
    (g_A 5 q4.2 this 1).bind fun a36 =>
    (g_A 5 q4.2 this 2).bind fun a38 =>
    (r_I 100 q4.2 a38 (5 : Int32)).bind fun x40 =>
    (fX6_c q4.1 q4.2).bind fun q42 =>
    (r_I 100 q42.2 a36 (x40 + (q42.1 / (4 : Int32)))).bind fun x43 =>
    some (x43, q42.2)
  else
  if p1 = (4 : Int32) then
    (k_ok 5 q4.2 this).bind fun _ =>
    (fX6_tag this p0 q4.2).bind fun q47 =>
    some (q47.1, q47.2)
  else
  (k_ok 5 q4.2 this).bind fun _ =>
  (fX6_rest this p0 q4.2).bind fun q49 =>
  some (q49.1, q49.2)
theorem pX6_of {w : eW} {d : Nat} (hd : 2 ≤ d) {this : Nat} {p0 : Int32} {p1 : Int32} {h : eH} {q} (hf : fX6_of this p0 p1 h = some q) : wm w d YX6_of [.ref this, .int p0, .int p1] h (e_is (e_rn c_I q)) := by
  obtain ⟨d, rfl⟩ : ∃ e, d = e + 1 := ⟨d - 1, by omega⟩
  show wp w (d + 1) YX6_of 0 [some (.ref this), some (.int p0), some (.int p1), none] [] h _
  unfold fX6_of at hf
  refine w_aload_n dX6_of_0 rfl rfl ?_
  refine w_iconst dX6_of_1 (v := 1) (by decide) ?_
  refine w_iload_n dX6_of_2 rfl rfl ?_
  refine w_aload_n dX6_of_3 rfl rfl ?_
  obtain ⟨x1, b2, hf⟩ := Option.bind_eq_some_iff.mp hf
  refine GX6_25 b2 dX6_of_4 rfl ?_
  refine w_isub dX6_of_7 ?_
  obtain ⟨_, b3, hf⟩ := Option.bind_eq_some_iff.mp hf
  refine x_cnI hf (e_stV (Yc := YX6_word) (ci := 5) (av := [.int (1 : Int32), .int (p0 - x1)]) (st := []) dX6_of_8 q2229 mX6_word rfl (k_ok_some b3).1 (k_ok_some b3).2) mX6_word.2.2.1 mX6_word.2.2.2.2.1 (Nat.le_of_ble_eq_true rfl) (Nat.le_of_ble_eq_true rfl) (fun q hq => pX6_word (by omega) hq) (fun q4 hf => ?_)
  refine w_istore_n dX6_of_11 rfl (by decide) (ls' := [some (.ref this), some (.int p0), some (.int p1), some (.int q4.1)]) rfl ?_
  refine w_iload_n dX6_of_12 rfl rfl ?_
  by_cases c5 : p1 = (0 : Int32)
  · replace hf := (if_pos c5).symm.trans hf
    refine w_tableIn 48 dX6_of_13 (by rw [c5]; decide) (by rw [c5]; decide) (by rw [c5]; rfl) (by decide) ?_
    refine w_aload_n dX6_of_48 rfl rfl ?_
    obtain ⟨a6, b7, hf⟩ := Option.bind_eq_some_iff.mp hf
    refine GX6_15 b7 dX6_of_49 rfl ?_
    refine w_aload_n dX6_of_52 rfl rfl ?_
    obtain ⟨a8, b9, hf⟩ := Option.bind_eq_some_iff.mp hf
    refine GX6_18 b9 dX6_of_53 rfl ?_
    refine w_iconst dX6_of_56 (v := 2) (by decide) ?_
    obtain ⟨x10, b11, hf⟩ := Option.bind_eq_some_iff.mp hf
    refine x_rI b11 dX6_of_57 ?_
    refine w_iload_n dX6_of_58 rfl rfl ?_
    refine x_cnI hf (e_stS (Yc := YX6_a) (av := [.int q4.1]) (st := [.int x10, .ref a6]) dX6_of_59 q2238 mX6_a) mX6_a.2.2.1 mX6_a.2.2.2.2.1 (Nat.le_of_ble_eq_true rfl) (Nat.le_of_ble_eq_true rfl) (fun q hq => pX6_a (by omega) hq) (fun q12 hf => ?_)
    refine w_iadd dX6_of_62 ?_
    obtain ⟨x13, b14, hf⟩ := Option.bind_eq_some_iff.mp hf
    refine x_rI b14 dX6_of_63 ?_
    cases hf
    exact w_iret dX6_of_64 rfl rfl rfl
  replace hf := (if_neg c5).symm.trans hf
  by_cases c15 : p1 = (1 : Int32)
  · replace hf := (if_pos c15).symm.trans hf
    refine w_tableIn 65 dX6_of_13 (by rw [c15]; decide) (by rw [c15]; decide) (by rw [c15]; rfl) (by decide) ?_
    refine w_aload_n dX6_of_65 rfl rfl ?_
    obtain ⟨a16, b17, hf⟩ := Option.bind_eq_some_iff.mp hf
    refine GX6_15 b17 dX6_of_66 rfl ?_
    refine w_aload_n dX6_of_69 rfl rfl ?_
    obtain ⟨a18, b19, hf⟩ := Option.bind_eq_some_iff.mp hf
    refine GX6_18 b19 dX6_of_70 rfl ?_
    refine w_iconst dX6_of_73 (v := 3) (by decide) ?_
    obtain ⟨x20, b21, hf⟩ := Option.bind_eq_some_iff.mp hf
    refine x_rI b21 dX6_of_74 ?_
    refine w_iload_n dX6_of_75 rfl rfl ?_
    refine x_cnI hf (e_stS (Yc := YX6_b) (av := [.int q4.1]) (st := [.int x20, .ref a16]) dX6_of_76 q2241 mX6_b) mX6_b.2.2.1 mX6_b.2.2.2.2.1 (Nat.le_of_ble_eq_true rfl) (Nat.le_of_ble_eq_true rfl) (fun q hq => pX6_b (by omega) hq) (fun q22 hf => ?_)
    refine w_bipush dX6_of_79 (v := 16) (by decide) ?_
    refine w_idiv dX6_of_81 (by decide) ?_
    refine w_iadd dX6_of_82 ?_
    obtain ⟨x23, b24, hf⟩ := Option.bind_eq_some_iff.mp hf
    refine x_rI b24 dX6_of_83 ?_
    cases hf
    exact w_iret dX6_of_84 rfl rfl rfl
  replace hf := (if_neg c15).symm.trans hf
  by_cases c25 : p1 = (2 : Int32)
  · replace hf := (if_pos c25).symm.trans hf
    refine w_tableIn 85 dX6_of_13 (by rw [c25]; decide) (by rw [c25]; decide) (by rw [c25]; rfl) (by decide) ?_
    refine w_aload_n dX6_of_85 rfl rfl ?_
    obtain ⟨a26, b27, hf⟩ := Option.bind_eq_some_iff.mp hf
    refine GX6_15 b27 dX6_of_86 rfl ?_
    refine w_aload_n dX6_of_89 rfl rfl ?_
    obtain ⟨a28, b29, hf⟩ := Option.bind_eq_some_iff.mp hf
    refine GX6_18 b29 dX6_of_90 rfl ?_
    refine w_iconst dX6_of_93 (v := 4) (by decide) ?_
    obtain ⟨x30, b31, hf⟩ := Option.bind_eq_some_iff.mp hf
    refine x_rI b31 dX6_of_94 ?_
    refine w_iload_n dX6_of_95 rfl rfl ?_
    refine x_cnI hf (e_stS (Yc := YX6_b) (av := [.int q4.1]) (st := [.int x30, .ref a26]) dX6_of_96 q2241 mX6_b) mX6_b.2.2.1 mX6_b.2.2.2.2.1 (Nat.le_of_ble_eq_true rfl) (Nat.le_of_ble_eq_true rfl) (fun q hq => pX6_b (by omega) hq) (fun q32 hf => ?_)
    refine w_bipush dX6_of_99 (v := 16) (by decide) ?_
    refine w_irem dX6_of_101 (by decide) ?_
    refine w_iadd dX6_of_102 ?_
    obtain ⟨x33, b34, hf⟩ := Option.bind_eq_some_iff.mp hf
    refine x_rI b34 dX6_of_103 ?_
    cases hf
    exact w_iret dX6_of_104 rfl rfl rfl
  replace hf := (if_neg c25).symm.trans hf
  by_cases c35 : p1 = (3 : Int32)
  · replace hf := (if_pos c35).symm.trans hf
    refine w_tableIn 105 dX6_of_13 (by rw [c35]; decide) (by rw [c35]; decide) (by rw [c35]; rfl) (by decide) ?_
    refine w_aload_n dX6_of_105 rfl rfl ?_
    obtain ⟨a36, b37, hf⟩ := Option.bind_eq_some_iff.mp hf
    refine GX6_15 b37 dX6_of_106 rfl ?_
    refine w_aload_n dX6_of_109 rfl rfl ?_
    obtain ⟨a38, b39, hf⟩ := Option.bind_eq_some_iff.mp hf
    refine GX6_18 b39 dX6_of_110 rfl ?_
    refine w_iconst dX6_of_113 (v := 5) (by decide) ?_
    obtain ⟨x40, b41, hf⟩ := Option.bind_eq_some_iff.mp hf
    refine x_rI b41 dX6_of_114 ?_
    refine w_iload_n dX6_of_115 rfl rfl ?_
    refine x_cnI hf (e_stS (Yc := YX6_c) (av := [.int q4.1]) (st := [.int x40, .ref a36]) dX6_of_116 q2244 mX6_c) mX6_c.2.2.1 mX6_c.2.2.2.2.1 (Nat.le_of_ble_eq_true rfl) (Nat.le_of_ble_eq_true rfl) (fun q hq => pX6_c (by omega) hq) (fun q42 hf => ?_)
    refine w_iconst dX6_of_119 (v := 4) (by decide) ?_
    refine w_idiv dX6_of_120 (by decide) ?_
    refine w_iadd dX6_of_121 ?_
    obtain ⟨x43, b44, hf⟩ := Option.bind_eq_some_iff.mp hf
    refine x_rI b44 dX6_of_122 ?_
    cases hf
    exact w_iret dX6_of_123 rfl rfl rfl
  replace hf := (if_neg c35).symm.trans hf
  by_cases c45 : p1 = (4 : Int32)
  · replace hf := (if_pos c45).symm.trans hf
    refine w_tableIn 124 dX6_of_13 (by rw [c45]; decide) (by rw [c45]; decide) (by rw [c45]; rfl) (by decide) ?_
    refine w_aload_n dX6_of_124 rfl rfl ?_
    refine w_iload_n dX6_of_125 rfl rfl ?_
    obtain ⟨_, b46, hf⟩ := Option.bind_eq_some_iff.mp hf
    refine x_cnI hf (e_stV (Yc := YX6_tag) (ci := 5) (av := [.int p0]) (st := []) dX6_of_126 q2255 mX6_tag rfl (k_ok_some b46).1 (k_ok_some b46).2) mX6_tag.2.2.1 mX6_tag.2.2.2.2.1 (Nat.le_of_ble_eq_true rfl) (Nat.le_of_ble_eq_true rfl) (fun q hq => pX6_tag (by omega) hq) (fun q47 hf => ?_)
    cases hf
    exact w_iret dX6_of_129 rfl rfl rfl
  replace hf := (if_neg c45).symm.trans hf
  refine w_tableOut 130 dX6_of_13 (by have n0 := sw_ne c5 (by decide : (0 : Int32).toInt = 0); have n1 := sw_ne c15 (by decide : (1 : Int32).toInt = 1); have n2 := sw_ne c25 (by decide : (2 : Int32).toInt = 2); have n3 := sw_ne c35 (by decide : (3 : Int32).toInt = 3); have n4 := sw_ne c45 (by decide : (4 : Int32).toInt = 4); omega) (by decide) ?_
  refine w_aload_n dX6_of_130 rfl rfl ?_
  refine w_iload_n dX6_of_131 rfl rfl ?_
  obtain ⟨_, b48, hf⟩ := Option.bind_eq_some_iff.mp hf
  refine x_cnI hf (e_stV (Yc := YX6_rest) (ci := 5) (av := [.int p0]) (st := []) dX6_of_132 q2259 mX6_rest rfl (k_ok_some b48).1 (k_ok_some b48).2) mX6_rest.2.2.1 mX6_rest.2.2.2.2.1 (Nat.le_of_ble_eq_true rfl) (Nat.le_of_ble_eq_true rfl) (fun q hq => pX6_rest (by omega) hq) (fun q49 hf => ?_)
  cases hf
  exact w_iret dX6_of_135 rfl rfl rfl
abbrev cX3_setRow : ByteArray := prog_26_method_24_code
def yX3_setRow : MethodName := ⟨RX3, "setRow", "([BILTypeHouse$Lists;)Z"⟩
def YX3_setRow : eY := (yX3_setRow, cX3_setRow, 7, (Option.some FieldType.boolean), [])
theorem mX3_setRow : e_mv YX3_setRow RX3 3 := ⟨q2798, qs100, q2799, by decide, by decide +kernel, (e_sig (by decide +kernel))⟩
theorem dX3_setRow_0 : decode cX3_setRow 0 = .ok (.aload_n 0, 1) := dc_42 (by decide +kernel)
theorem dX3_setRow_1 : decode cX3_setRow 1 = .ok (.getfield 23, 3) := dc_180 (a := 0) (b := 23) (n := 23) (by decide +kernel)
theorem dX3_setRow_4 : decode cX3_setRow 4 = .ok (.getfield 448, 3) := dc_180 (a := 1) (b := 192) (n := 448) (by decide +kernel)
theorem dX3_setRow_7 : decode cX3_setRow 7 = .ok (.aload_n 0, 1) := dc_42 (by decide +kernel)
theorem dX3_setRow_8 : decode cX3_setRow 8 = .ok (.getfield 457, 3) := dc_180 (a := 1) (b := 201) (n := 457) (by decide +kernel)
theorem dX3_setRow_11 : decode cX3_setRow 11 = .ok (.aaload, 1) := dc_50 (by decide +kernel)
theorem dX3_setRow_12 : decode cX3_setRow 12 = .ok (.astore 4, 2) := dc_58 (a := 4) (by decide +kernel)
theorem dX3_setRow_14 : decode cX3_setRow 14 = .ok (.aload_n 0, 1) := dc_42 (by decide +kernel)
theorem dX3_setRow_15 : decode cX3_setRow 15 = .ok (.getfield 64, 3) := dc_180 (a := 0) (b := 64) (n := 64) (by decide +kernel)
theorem dX3_setRow_18 : decode cX3_setRow 18 = .ok (.aload 4, 2) := dc_25 (a := 4) (by decide +kernel)
theorem dX3_setRow_20 : decode cX3_setRow 20 = .ok (.aload_n 1, 1) := dc_43 (by decide +kernel)
theorem dX3_setRow_21 : decode cX3_setRow 21 = .ok (.iload_n 2, 1) := dc_28 (by decide +kernel)
theorem dX3_setRow_22 : decode cX3_setRow 22 = .ok (.invokevirtual 460, 3) := dc_182 (a := 1) (b := 204) (n := 460) (by decide +kernel)
theorem dX3_setRow_25 : decode cX3_setRow 25 = .ok (.ifCond .ne 5, 3) := dc_154 (a := 0) (b := 5) (v := 5) (by decide +kernel)
theorem dX3_setRow_28 : decode cX3_setRow 28 = .ok (.iconst 0, 1) := dc_3 (by decide +kernel)
theorem dX3_setRow_29 : decode cX3_setRow 29 = .ok (.ireturn, 1) := dc_172 (by decide +kernel)
theorem dX3_setRow_30 : decode cX3_setRow 30 = .ok (.iconst 0, 1) := dc_3 (by decide +kernel)
theorem dX3_setRow_31 : decode cX3_setRow 31 = .ok (.istore 5, 2) := dc_54 (a := 5) (by decide +kernel)
theorem dX3_setRow_33 : decode cX3_setRow 33 = .ok (.iload 5, 2) := dc_21 (a := 5) (by decide +kernel)
theorem dX3_setRow_35 : decode cX3_setRow 35 = .ok (.aload_n 0, 1) := dc_42 (by decide +kernel)
theorem dX3_setRow_36 : decode cX3_setRow 36 = .ok (.getfield 64, 3) := dc_180 (a := 0) (b := 64) (n := 64) (by decide +kernel)
theorem dX3_setRow_39 : decode cX3_setRow 39 = .ok (.getfield 463, 3) := dc_180 (a := 1) (b := 207) (n := 463) (by decide +kernel)
theorem dX3_setRow_42 : decode cX3_setRow 42 = .ok (.if_icmp .ge 86, 3) := dc_162 (a := 0) (b := 86) (v := 86) (by decide +kernel)
theorem dX3_setRow_45 : decode cX3_setRow 45 = .ok (.aload_n 0, 1) := dc_42 (by decide +kernel)
theorem dX3_setRow_46 : decode cX3_setRow 46 = .ok (.getfield 64, 3) := dc_180 (a := 0) (b := 64) (n := 64) (by decide +kernel)
theorem dX3_setRow_49 : decode cX3_setRow 49 = .ok (.iload 5, 2) := dc_21 (a := 5) (by decide +kernel)
theorem dX3_setRow_51 : decode cX3_setRow 51 = .ok (.invokevirtual 464, 3) := dc_182 (a := 1) (b := 208) (n := 464) (by decide +kernel)
theorem dX3_setRow_54 : decode cX3_setRow 54 = .ok (.istore 6, 2) := dc_54 (a := 6) (by decide +kernel)
theorem dX3_setRow_56 : decode cX3_setRow 56 = .ok (.aload_n 0, 1) := dc_42 (by decide +kernel)
theorem dX3_setRow_57 : decode cX3_setRow 57 = .ok (.getfield 64, 3) := dc_180 (a := 0) (b := 64) (n := 64) (by decide +kernel)
theorem dX3_setRow_60 : decode cX3_setRow 60 = .ok (.iload 5, 2) := dc_21 (a := 5) (by decide +kernel)
theorem dX3_setRow_62 : decode cX3_setRow 62 = .ok (.invokevirtual 467, 3) := dc_182 (a := 1) (b := 211) (n := 467) (by decide +kernel)
theorem dX3_setRow_65 : decode cX3_setRow 65 = .ok (.ifCond .eq 17, 3) := dc_153 (a := 0) (b := 17) (v := 17) (by decide +kernel)
theorem dX3_setRow_68 : decode cX3_setRow 68 = .ok (.aload_n 3, 1) := dc_45 (by decide +kernel)
theorem dX3_setRow_69 : decode cX3_setRow 69 = .ok (.iconst 3, 1) := dc_6 (by decide +kernel)
theorem dX3_setRow_70 : decode cX3_setRow 70 = .ok (.iload 6, 2) := dc_21 (a := 6) (by decide +kernel)
theorem dX3_setRow_72 : decode cX3_setRow 72 = .ok (.iconst 0, 1) := dc_3 (by decide +kernel)
theorem dX3_setRow_73 : decode cX3_setRow 73 = .ok (.iconst 0, 1) := dc_3 (by decide +kernel)
theorem dX3_setRow_74 : decode cX3_setRow 74 = .ok (.iconst 0, 1) := dc_3 (by decide +kernel)
theorem dX3_setRow_75 : decode cX3_setRow 75 = .ok (.iconst 0, 1) := dc_3 (by decide +kernel)
theorem dX3_setRow_76 : decode cX3_setRow 76 = .ok (.invokevirtual 322, 3) := dc_182 (a := 1) (b := 66) (n := 322) (by decide +kernel)
theorem dX3_setRow_79 : decode cX3_setRow 79 = .ok (.goto 43, 3) := dc_167 (a := 0) (b := 43) (v := 43) (by decide +kernel)
theorem dX3_setRow_82 : decode cX3_setRow 82 = .ok (.aload_n 3, 1) := dc_45 (by decide +kernel)
theorem dX3_setRow_83 : decode cX3_setRow 83 = .ok (.iconst 0, 1) := dc_3 (by decide +kernel)
theorem dX3_setRow_84 : decode cX3_setRow 84 = .ok (.aload_n 0, 1) := dc_42 (by decide +kernel)
theorem dX3_setRow_85 : decode cX3_setRow 85 = .ok (.getfield 457, 3) := dc_180 (a := 1) (b := 201) (n := 457) (by decide +kernel)
theorem dX3_setRow_88 : decode cX3_setRow 88 = .ok (.bipush 8, 2) := dc_16 (a := 8) (v := 8) (by decide +kernel)
theorem dX3_setRow_90 : decode cX3_setRow 90 = .ok (.ishl, 1) := dc_120 (by decide +kernel)
theorem dX3_setRow_91 : decode cX3_setRow 91 = .ok (.iload 6, 2) := dc_21 (a := 6) (by decide +kernel)
theorem dX3_setRow_93 : decode cX3_setRow 93 = .ok (.ior, 1) := dc_128 (by decide +kernel)
theorem dX3_setRow_94 : decode cX3_setRow 94 = .ok (.aload 4, 2) := dc_25 (a := 4) (by decide +kernel)
theorem dX3_setRow_96 : decode cX3_setRow 96 = .ok (.iload 6, 2) := dc_21 (a := 6) (by decide +kernel)
theorem dX3_setRow_98 : decode cX3_setRow 98 = .ok (.iconst 0, 1) := dc_3 (by decide +kernel)
theorem dX3_setRow_99 : decode cX3_setRow 99 = .ok (.invokevirtual 470, 3) := dc_182 (a := 1) (b := 214) (n := 470) (by decide +kernel)
theorem dX3_setRow_102 : decode cX3_setRow 102 = .ok (.aload 4, 2) := dc_25 (a := 4) (by decide +kernel)
theorem dX3_setRow_104 : decode cX3_setRow 104 = .ok (.iload 6, 2) := dc_21 (a := 6) (by decide +kernel)
theorem dX3_setRow_106 : decode cX3_setRow 106 = .ok (.iconst 1, 1) := dc_4 (by decide +kernel)
theorem dX3_setRow_107 : decode cX3_setRow 107 = .ok (.invokevirtual 470, 3) := dc_182 (a := 1) (b := 214) (n := 470) (by decide +kernel)
theorem dX3_setRow_110 : decode cX3_setRow 110 = .ok (.aload 4, 2) := dc_25 (a := 4) (by decide +kernel)
theorem dX3_setRow_112 : decode cX3_setRow 112 = .ok (.iload 6, 2) := dc_21 (a := 6) (by decide +kernel)
theorem dX3_setRow_114 : decode cX3_setRow 114 = .ok (.iconst 2, 1) := dc_5 (by decide +kernel)
theorem dX3_setRow_115 : decode cX3_setRow 115 = .ok (.invokevirtual 470, 3) := dc_182 (a := 1) (b := 214) (n := 470) (by decide +kernel)
theorem dX3_setRow_118 : decode cX3_setRow 118 = .ok (.iconst 0, 1) := dc_3 (by decide +kernel)
theorem dX3_setRow_119 : decode cX3_setRow 119 = .ok (.invokevirtual 322, 3) := dc_182 (a := 1) (b := 66) (n := 322) (by decide +kernel)
theorem dX3_setRow_122 : decode cX3_setRow 122 = .ok (.iinc 5 1, 3) := dc_132 (a := 5) (b := 1) (v := 1) (by decide +kernel)
theorem dX3_setRow_125 : decode cX3_setRow 125 = .ok (.goto (-92), 3) := dc_167 (a := 255) (b := 164) (v := -92) (by decide +kernel)
theorem dX3_setRow_128 : decode cX3_setRow 128 = .ok (.iconst 1, 1) := dc_4 (by decide +kernel)
theorem dX3_setRow_129 : decode cX3_setRow 129 = .ok (.ireturn, 1) := dc_172 (by decide +kernel)
theorem GX3_448 {w : eW} {d : Nat} {Y : eY} {pc : Nat} {ls : eL} {st : List Value} {h : eH} {Q : eO → eH → Prop} {a : Nat} {x : Nat} (hf : g_A 4 h a 1 = some x) (hd : decode Y.2.1 pc = .ok (.getfield 448, 3)) (hY : Y.1.cls = RX3) (kk : wp w d Y (pc + 3) ls (.ref x :: st) h Q) : wp w d Y pc ls (.ref a :: st) h Q := x_gAN (ci := 4) (k := 1) hf hd rfl (by decide) (by rw [hY]; exact q587) kk
theorem GX3_457 {w : eW} {d : Nat} {Y : eY} {pc : Nat} {ls : eL} {st : List Value} {h : eH} {Q : eO → eH → Prop} {a : Nat} {x : Int32} (hf : g_I 2 h a 31 = some x) (hd : decode Y.2.1 pc = .ok (.getfield 457, 3)) (hY : Y.1.cls = RX3) (kk : wp w d Y (pc + 3) ls (.int x :: st) h Q) : wp w d Y pc ls (.ref a :: st) h Q := x_gI (ci := 2) (k := 31) hf hd rfl (by decide) (by rw [hY]; exact q1823) kk
theorem GX3_463 {w : eW} {d : Nat} {Y : eY} {pc : Nat} {ls : eL} {st : List Value} {h : eH} {Q : eO → eH → Prop} {a : Nat} {x : Int32} (hf : g_I 17 h a 4 = some x) (hd : decode Y.2.1 pc = .ok (.getfield 463, 3)) (hY : Y.1.cls = RX3) (kk : wp w d Y (pc + 3) ls (.int x :: st) h Q) : wp w d Y pc ls (.ref a :: st) h Q := x_gIN (ci := 17) (k := 4) hf hd rfl (by decide) (by rw [hY]; exact q1142) kk
theorem GX3_64 {w : eW} {d : Nat} {Y : eY} {pc : Nat} {ls : eL} {st : List Value} {h : eH} {Q : eO → eH → Prop} {a : Nat} {x : Nat} (hf : g_A 2 h a 8 = some x) (hd : decode Y.2.1 pc = .ok (.getfield 64, 3)) (hY : Y.1.cls = RX3) (kk : wp w d Y (pc + 3) ls (.ref x :: st) h Q) : wp w d Y pc ls (.ref a :: st) h Q := x_gA (ci := 2) (k := 8) hf hd rfl (by decide) (by rw [hY]; exact q1799) kk
def fX3_setRow_b122 (N : Nat) (k33 : Nat → Nat → Nat → Int32 → eH → Option (Int32 × eH)) (l0 : Nat) (l3 : Nat) (l4 : Nat) (l5 : Int32) (h : eH) : Option (Int32 × eH) :=
  k33 l0 l3 l4 (l5 + (1 : Int32)) h
theorem pX3_setRow_b122 {w : eW} {d : Nat} (hd : 4 ≤ d + 1) {N : Nat} {k33 : Nat → Nat → Nat → Int32 → eH → Option (Int32 × eH)} (hk33 : ∀ l0 l3 l4 l5 h q, k33 l0 l3 l4 l5 h = some q → wp w (d + 1) YX3_setRow 33 [some (.ref l0), none, none, some (.ref l3), some (.ref l4), some (.int l5), none] [] h (e_is (e_rn c_I q))) {l0 : Nat} {l3 : Nat} {l4 : Nat} {l5 : Int32} {h : eH} {q} (hf : fX3_setRow_b122 N k33 l0 l3 l4 l5 h = some q) : wp w (d + 1) YX3_setRow 122 [some (.ref l0), none, none, some (.ref l3), some (.ref l4), some (.int l5), none] [] h (e_is (e_rn c_I q)) := by
  unfold fX3_setRow_b122 at hf
  refine w_iinc dX3_setRow_122 (v := (l5 + (1 : Int32))) rfl rfl (by decide) (ls' := [some (.ref l0), none, none, some (.ref l3), some (.ref l4), some (.int (l5 + (1 : Int32))), none]) rfl ?_
  refine w_goto 33 dX3_setRow_125 (by decide) ?_
  exact (hk33 _ _ _ _ _ _ hf).to ⟨rfl, rfl, rfl, rfl, trivial⟩
def fX3_setRow_b33 (N : Nat) : Nat → Nat → Nat → Nat → Int32 → eH → Option (Int32 × eH)
  | 0, _, _, _, _, _ => none
  | n + 1, l0, l3, l4, l5, h =>
    (g_A 2 h l0 8).bind fun a1 =>
    (g_I 17 h a1 4).bind fun x3 =>
    if x3 ≤ l5 then
      some ((1 : Int32), h)
    else
      (g_A 2 h l0 8).bind fun a6 =>
      (k_ok 17 h a6).bind fun _ =>
      (fX18_item a6 l5 h).bind fun q9 =>
      (g_A 2 q9.2 l0 8).bind fun a10 =>
      (k_ok 17 q9.2 a10).bind fun _ =>
      (fX18_isKern a10 l5 q9.2).bind fun q13 =>
      if q13.1 = 0 then
        (g_I 2 q13.2 l0 31).bind fun x15 =>
        (k_ok 5 q13.2 l4).bind fun _ =>
        (fX6_of l4 q9.1 (0 : Int32) q13.2).bind fun q18 =>
        (k_ok 5 q18.2 l4).bind fun _ =>
        (fX6_of l4 q9.1 (1 : Int32) q18.2).bind fun q20 =>
        (k_ok 5 q20.2 l4).bind fun _ =>
        (fX6_of l4 q9.1 (2 : Int32) q20.2).bind fun q22 =>
        (k_ok 33 q22.2 l3).bind fun _ =>
        (fX34_add l3 (0 : Int32) ((x15 <<< ((8 : Int32) &&& 31)) ||| q9.1) q18.1 q20.1 q22.1 (0 : Int32) q22.2).bind fun q24 =>
        fX3_setRow_b122 N (fX3_setRow_b33 N n) l0 l3 l4 l5 q24.2
      else
        (k_ok 33 q13.2 l3).bind fun _ =>
        (fX34_add l3 (3 : Int32) q9.1 (0 : Int32) (0 : Int32) (0 : Int32) (0 : Int32) q13.2).bind fun q26 =>
        fX3_setRow_b122 N (fX3_setRow_b33 N n) l0 l3 l4 l5 q26.2
theorem pX3_setRow_b33 {w : eW} {d : Nat} (hd : 4 ≤ d + 1) {N : Nat} : ∀ (n : Nat) l0 l3 l4 l5 h q, fX3_setRow_b33 N n l0 l3 l4 l5 h = some q → wp w (d + 1) YX3_setRow 33 [some (.ref l0), none, none, some (.ref l3), some (.ref l4), some (.int l5), none] [] h (e_is (e_rn c_I q)) := by
  intro n
  induction n with
  | zero => intro l0 l3 l4 l5 h q hf; simp [fX3_setRow_b33] at hf
  | succ n ih =>
    intro l0 l3 l4 l5 h q hf
    rw [fX3_setRow_b33] at hf
    refine w_iload dX3_setRow_33 rfl ?_
    refine w_aload_n dX3_setRow_35 rfl rfl ?_
    obtain ⟨a1, b2, hf⟩ := Option.bind_eq_some_iff.mp hf
    refine GX3_64 b2 dX3_setRow_36 rfl ?_
    obtain ⟨x3, b4, hf⟩ := Option.bind_eq_some_iff.mp hf
    refine GX3_463 b4 dX3_setRow_39 rfl ?_
    refine w_icmp_ge 128 dX3_setRow_42 (by decide) (fun c5 => ?_) (fun c5 => ?_)
    · replace hf := (if_pos (show x3 ≤ l5 from c5)).symm.trans hf
      refine w_iconst dX3_setRow_128 (v := 1) (by decide) ?_
      cases hf
      exact w_iret dX3_setRow_129 rfl rfl rfl
    · replace hf := (if_neg (show ¬ (x3 ≤ l5) from c5)).symm.trans hf
      refine w_aload_n dX3_setRow_45 rfl rfl ?_
      obtain ⟨a6, b7, hf⟩ := Option.bind_eq_some_iff.mp hf
      refine GX3_64 b7 dX3_setRow_46 rfl ?_
      refine w_iload dX3_setRow_49 rfl ?_
      obtain ⟨_, b8, hf⟩ := Option.bind_eq_some_iff.mp hf
      refine x_cnI hf (e_stV (Yc := YX18_item) (ci := 17) (av := [.int l5]) (st := []) dX3_setRow_51 q2829 mX18_item rfl (k_ok_some b8).1 (k_ok_some b8).2) mX18_item.2.2.1 mX18_item.2.2.2.2.1 (Nat.le_of_ble_eq_true rfl) (Nat.le_of_ble_eq_true rfl) (fun q hq => pX18_item (by omega) hq) (fun q9 hf => ?_)
      refine w_istore dX3_setRow_54 (by decide) (ls' := [some (.ref l0), none, none, some (.ref l3), some (.ref l4), some (.int l5), some (.int q9.1)]) rfl ?_
      refine w_aload_n dX3_setRow_56 rfl rfl ?_
      obtain ⟨a10, b11, hf⟩ := Option.bind_eq_some_iff.mp hf
      refine GX3_64 b11 dX3_setRow_57 rfl ?_
      refine w_iload dX3_setRow_60 rfl ?_
      obtain ⟨_, b12, hf⟩ := Option.bind_eq_some_iff.mp hf
      refine x_cnI hf (e_stV (Yc := YX18_isKern) (ci := 17) (av := [.int l5]) (st := []) dX3_setRow_62 q2833 mX18_isKern rfl (k_ok_some b12).1 (k_ok_some b12).2) mX18_isKern.2.2.1 mX18_isKern.2.2.2.2.1 (Nat.le_of_ble_eq_true rfl) (Nat.le_of_ble_eq_true rfl) (fun q hq => pX18_isKern (by omega) hq) (fun q13 hf => ?_)
      refine w_if_eq 82 dX3_setRow_65 (by decide) (fun c14 => ?_) (fun c14 => ?_)
      · replace hf := (if_pos (show q13.1 = 0 from c14)).symm.trans hf
        refine w_aload_n dX3_setRow_82 rfl rfl ?_
        refine w_iconst dX3_setRow_83 (v := 0) (by decide) ?_
        refine w_aload_n dX3_setRow_84 rfl rfl ?_
        obtain ⟨x15, b16, hf⟩ := Option.bind_eq_some_iff.mp hf
        refine GX3_457 b16 dX3_setRow_85 rfl ?_
        refine w_bipush dX3_setRow_88 (v := 8) (by decide) ?_
        refine w_ishl dX3_setRow_90 ?_
        refine w_iload dX3_setRow_91 rfl ?_
        refine w_ior dX3_setRow_93 ?_
        refine w_aload dX3_setRow_94 rfl ?_
        refine w_iload dX3_setRow_96 rfl ?_
        refine w_iconst dX3_setRow_98 (v := 0) (by decide) ?_
        obtain ⟨_, b17, hf⟩ := Option.bind_eq_some_iff.mp hf
        refine x_cnI hf (e_stV (Yc := YX6_of) (ci := 5) (av := [.int q9.1, .int (0 : Int32)]) (st := [.int ((x15 <<< ((8 : Int32) &&& 31)) ||| q9.1), .int (0 : Int32), .ref l3]) dX3_setRow_99 q2842 mX6_of rfl (k_ok_some b17).1 (k_ok_some b17).2) mX6_of.2.2.1 mX6_of.2.2.2.2.1 (Nat.le_of_ble_eq_true rfl) (Nat.le_of_ble_eq_true rfl) (fun q hq => pX6_of (by omega) hq) (fun q18 hf => ?_)
        refine w_aload dX3_setRow_102 rfl ?_
        refine w_iload dX3_setRow_104 rfl ?_
        refine w_iconst dX3_setRow_106 (v := 1) (by decide) ?_
        obtain ⟨_, b19, hf⟩ := Option.bind_eq_some_iff.mp hf
        refine x_cnI hf (e_stV (Yc := YX6_of) (ci := 5) (av := [.int q9.1, .int (1 : Int32)]) (st := [.int q18.1, .int ((x15 <<< ((8 : Int32) &&& 31)) ||| q9.1), .int (0 : Int32), .ref l3]) dX3_setRow_107 q2842 mX6_of rfl (k_ok_some b19).1 (k_ok_some b19).2) mX6_of.2.2.1 mX6_of.2.2.2.2.1 (Nat.le_of_ble_eq_true rfl) (Nat.le_of_ble_eq_true rfl) (fun q hq => pX6_of (by omega) hq) (fun q20 hf => ?_)
        refine w_aload dX3_setRow_110 rfl ?_
        refine w_iload dX3_setRow_112 rfl ?_
        refine w_iconst dX3_setRow_114 (v := 2) (by decide) ?_
        obtain ⟨_, b21, hf⟩ := Option.bind_eq_some_iff.mp hf
        refine x_cnI hf (e_stV (Yc := YX6_of) (ci := 5) (av := [.int q9.1, .int (2 : Int32)]) (st := [.int q20.1, .int q18.1, .int ((x15 <<< ((8 : Int32) &&& 31)) ||| q9.1), .int (0 : Int32), .ref l3]) dX3_setRow_115 q2842 mX6_of rfl (k_ok_some b21).1 (k_ok_some b21).2) mX6_of.2.2.1 mX6_of.2.2.2.2.1 (Nat.le_of_ble_eq_true rfl) (Nat.le_of_ble_eq_true rfl) (fun q hq => pX6_of (by omega) hq) (fun q22 hf => ?_)
        refine w_iconst dX3_setRow_118 (v := 0) (by decide) ?_
        obtain ⟨_, b23, hf⟩ := Option.bind_eq_some_iff.mp hf
        refine x_cnV hf (e_stV (Yc := YX34_add) (ci := 33) (av := [.int (0 : Int32), .int ((x15 <<< ((8 : Int32) &&& 31)) ||| q9.1), .int q18.1, .int q20.1, .int q22.1, .int (0 : Int32)]) (st := []) dX3_setRow_119 q2837 mX34_add rfl (k_ok_some b23).1 (k_ok_some b23).2) mX34_add.2.2.1 mX34_add.2.2.2.2.1 (Nat.le_of_ble_eq_true rfl) (Nat.le_of_ble_eq_true rfl) (fun q hq => pX34_add (by omega) hq) (fun q24 hf => ?_)
        exact (pX3_setRow_b122 hd ih hf).to ⟨rfl, rfl, rfl, rfl, trivial⟩
      · replace hf := (if_neg (show ¬ (q13.1 = 0) from c14)).symm.trans hf
        refine w_aload_n dX3_setRow_68 rfl rfl ?_
        refine w_iconst dX3_setRow_69 (v := 3) (by decide) ?_
        refine w_iload dX3_setRow_70 rfl ?_
        refine w_iconst dX3_setRow_72 (v := 0) (by decide) ?_
        refine w_iconst dX3_setRow_73 (v := 0) (by decide) ?_
        refine w_iconst dX3_setRow_74 (v := 0) (by decide) ?_
        refine w_iconst dX3_setRow_75 (v := 0) (by decide) ?_
        obtain ⟨_, b25, hf⟩ := Option.bind_eq_some_iff.mp hf
        refine x_cnV hf (e_stV (Yc := YX34_add) (ci := 33) (av := [.int (3 : Int32), .int q9.1, .int (0 : Int32), .int (0 : Int32), .int (0 : Int32), .int (0 : Int32)]) (st := []) dX3_setRow_76 q2837 mX34_add rfl (k_ok_some b25).1 (k_ok_some b25).2) mX34_add.2.2.1 mX34_add.2.2.2.2.1 (Nat.le_of_ble_eq_true rfl) (Nat.le_of_ble_eq_true rfl) (fun q hq => pX34_add (by omega) hq) (fun q26 hf => ?_)
        refine w_goto 122 dX3_setRow_79 (by decide) ?_
        exact (pX3_setRow_b122 hd ih hf).to ⟨rfl, rfl, rfl, rfl, trivial⟩
def fX3_setRow (N : Nat) (this : Nat) (p0 : Nat) (p1 : Int32) (p2 : Nat) (h : eH) : Option (Int32 × eH) :=
  (g_A 2 h this 1).bind fun a1 =>
  (g_A 4 h a1 1).bind fun a3 =>
  (g_I 2 h this 31).bind fun x5 =>
  (r_A 105 h a3 x5).bind fun a7 =>
  (g_A 2 h this 8).bind fun a9 =>
  (k_ok 17 h a9).bind fun _ =>
  (fX18_set N a9 a7 p0 p1 h).bind fun q12 =>
  if ¬ q12.1 = 0 then
    fX3_setRow_b33 N N this p2 a7 (0 : Int32) q12.2
  else
    some ((0 : Int32), q12.2)
theorem pX3_setRow {w : eW} {d : Nat} (hd : 4 ≤ d) {N : Nat} {this : Nat} {p0 : Nat} {p1 : Int32} {p2 : Nat} {h : eH} {q} (hf : fX3_setRow N this p0 p1 p2 h = some q) : wm w d YX3_setRow [.ref this, .ref p0, .int p1, .ref p2] h (e_is (e_rn c_I q)) := by
  obtain ⟨d, rfl⟩ : ∃ e, d = e + 1 := ⟨d - 1, by omega⟩
  show wp w (d + 1) YX3_setRow 0 [some (.ref this), some (.ref p0), some (.int p1), some (.ref p2), none, none, none] [] h _
  unfold fX3_setRow at hf
  refine w_aload_n dX3_setRow_0 rfl rfl ?_
  obtain ⟨a1, b2, hf⟩ := Option.bind_eq_some_iff.mp hf
  refine GX3_23 b2 dX3_setRow_1 rfl ?_
  obtain ⟨a3, b4, hf⟩ := Option.bind_eq_some_iff.mp hf
  refine GX3_448 b4 dX3_setRow_4 rfl ?_
  refine w_aload_n dX3_setRow_7 rfl rfl ?_
  obtain ⟨x5, b6, hf⟩ := Option.bind_eq_some_iff.mp hf
  refine GX3_457 b6 dX3_setRow_8 rfl ?_
  obtain ⟨a7, b8, hf⟩ := Option.bind_eq_some_iff.mp hf
  refine x_rA (c := 105) (by decide) b8 dX3_setRow_11 ?_
  refine w_astore dX3_setRow_12 (by decide) (ls' := [some (.ref this), some (.ref p0), some (.int p1), some (.ref p2), some (.ref a7), none, none]) rfl ?_
  refine w_aload_n dX3_setRow_14 rfl rfl ?_
  obtain ⟨a9, b10, hf⟩ := Option.bind_eq_some_iff.mp hf
  refine GX3_64 b10 dX3_setRow_15 rfl ?_
  refine w_aload dX3_setRow_18 rfl ?_
  refine w_aload_n dX3_setRow_20 rfl rfl ?_
  refine w_iload_n dX3_setRow_21 rfl rfl ?_
  obtain ⟨_, b11, hf⟩ := Option.bind_eq_some_iff.mp hf
  refine x_cnI hf (e_stV (Yc := YX18_set) (ci := 17) (av := [.ref a7, .ref p0, .int p1]) (st := []) dX3_setRow_22 q2800 mX18_set rfl (k_ok_some b11).1 (k_ok_some b11).2) mX18_set.2.2.1 mX18_set.2.2.2.2.1 (Nat.le_of_ble_eq_true rfl) (Nat.le_of_ble_eq_true rfl) (fun q hq => pX18_set (by omega) hq) (fun q12 hf => ?_)
  refine w_if_ne 30 dX3_setRow_25 (by decide) (fun c13 => ?_) (fun c13 => ?_)
  · replace hf := (if_pos (show ¬ q12.1 = 0 from c13)).symm.trans hf
    refine w_iconst dX3_setRow_30 (v := 0) (by decide) ?_
    refine w_istore dX3_setRow_31 (by decide) (ls' := [some (.ref this), some (.ref p0), some (.int p1), some (.ref p2), some (.ref a7), some (.int (0 : Int32)), none]) rfl ?_
    exact (pX3_setRow_b33 hd N _ _ _ _ _ _ hf).to ⟨rfl, rfl, rfl, rfl, trivial⟩
  · replace hf := (if_neg (show ¬ (¬ q12.1 = 0) from (fun z => z c13))).symm.trans hf
    refine w_iconst dX3_setRow_28 (v := 0) (by decide) ?_
    cases hf
    exact w_iret dX3_setRow_29 rfl rfl rfl
abbrev cX15_widen : ByteArray := prog_33_method_11_code
def yX15_widen : MethodName := ⟨RX15, "widen", "(I)V"⟩
def YX15_widen : eY := (yX15_widen, cX15_widen, 3, none, [])
theorem mX15_widen : e_mv YX15_widen RX15 1 := ⟨q3131, qs108, q3132, by decide, by decide +kernel, (e_sig (by decide +kernel))⟩
theorem dX15_widen_0 : decode cX15_widen 0 = .ok (.aload_n 0, 1) := dc_42 (by decide +kernel)
theorem dX15_widen_1 : decode cX15_widen 1 = .ok (.aload_n 0, 1) := dc_42 (by decide +kernel)
theorem dX15_widen_2 : decode cX15_widen 2 = .ok (.getfield 37, 3) := dc_180 (a := 0) (b := 37) (n := 37) (by decide +kernel)
theorem dX15_widen_5 : decode cX15_widen 5 = .ok (.iload_n 1, 1) := dc_27 (by decide +kernel)
theorem dX15_widen_6 : decode cX15_widen 6 = .ok (.invokestatic 77, 3) := dc_184 (a := 0) (b := 77) (n := 77) (by decide +kernel)
theorem dX15_widen_9 : decode cX15_widen 9 = .ok (.putfield 37, 3) := dc_181 (a := 0) (b := 37) (n := 37) (by decide +kernel)
theorem dX15_widen_12 : decode cX15_widen 12 = .ok (.aload_n 0, 1) := dc_42 (by decide +kernel)
theorem dX15_widen_13 : decode cX15_widen 13 = .ok (.aload_n 0, 1) := dc_42 (by decide +kernel)
theorem dX15_widen_14 : decode cX15_widen 14 = .ok (.getfield 40, 3) := dc_180 (a := 0) (b := 40) (n := 40) (by decide +kernel)
theorem dX15_widen_17 : decode cX15_widen 17 = .ok (.iload_n 1, 1) := dc_27 (by decide +kernel)
theorem dX15_widen_18 : decode cX15_widen 18 = .ok (.invokestatic 77, 3) := dc_184 (a := 0) (b := 77) (n := 77) (by decide +kernel)
theorem dX15_widen_21 : decode cX15_widen 21 = .ok (.putfield 40, 3) := dc_181 (a := 0) (b := 40) (n := 40) (by decide +kernel)
theorem dX15_widen_24 : decode cX15_widen 24 = .ok (.iload_n 1, 1) := dc_27 (by decide +kernel)
theorem dX15_widen_25 : decode cX15_widen 25 = .ok (.aload_n 0, 1) := dc_42 (by decide +kernel)
theorem dX15_widen_26 : decode cX15_widen 26 = .ok (.getfield 46, 3) := dc_180 (a := 0) (b := 46) (n := 46) (by decide +kernel)
theorem dX15_widen_29 : decode cX15_widen 29 = .ok (.arraylength, 1) := dc_190 (by decide +kernel)
theorem dX15_widen_30 : decode cX15_widen 30 = .ok (.if_icmp .le 29, 3) := dc_164 (a := 0) (b := 29) (v := 29) (by decide +kernel)
theorem dX15_widen_33 : decode cX15_widen 33 = .ok (.iconst 2, 1) := dc_5 (by decide +kernel)
theorem dX15_widen_34 : decode cX15_widen 34 = .ok (.iload_n 1, 1) := dc_27 (by decide +kernel)
theorem dX15_widen_35 : decode cX15_widen 35 = .ok (.imul, 1) := dc_104 (by decide +kernel)
theorem dX15_widen_36 : decode cX15_widen 36 = .ok (.newarray .boolean, 2) := dc_188_4 (by decide +kernel)
theorem dX15_widen_38 : decode cX15_widen 38 = .ok (.astore_n 2, 1) := dc_77 (by decide +kernel)
theorem dX15_widen_39 : decode cX15_widen 39 = .ok (.aload_n 0, 1) := dc_42 (by decide +kernel)
theorem dX15_widen_40 : decode cX15_widen 40 = .ok (.getfield 46, 3) := dc_180 (a := 0) (b := 46) (n := 46) (by decide +kernel)
theorem dX15_widen_43 : decode cX15_widen 43 = .ok (.iconst 0, 1) := dc_3 (by decide +kernel)
theorem dX15_widen_44 : decode cX15_widen 44 = .ok (.aload_n 2, 1) := dc_44 (by decide +kernel)
theorem dX15_widen_45 : decode cX15_widen 45 = .ok (.iconst 0, 1) := dc_3 (by decide +kernel)
theorem dX15_widen_46 : decode cX15_widen 46 = .ok (.aload_n 0, 1) := dc_42 (by decide +kernel)
theorem dX15_widen_47 : decode cX15_widen 47 = .ok (.getfield 46, 3) := dc_180 (a := 0) (b := 46) (n := 46) (by decide +kernel)
theorem dX15_widen_50 : decode cX15_widen 50 = .ok (.arraylength, 1) := dc_190 (by decide +kernel)
theorem dX15_widen_51 : decode cX15_widen 51 = .ok (.invokestatic 81, 3) := dc_184 (a := 0) (b := 81) (n := 81) (by decide +kernel)
theorem dX15_widen_54 : decode cX15_widen 54 = .ok (.aload_n 0, 1) := dc_42 (by decide +kernel)
theorem dX15_widen_55 : decode cX15_widen 55 = .ok (.aload_n 2, 1) := dc_44 (by decide +kernel)
theorem dX15_widen_56 : decode cX15_widen 56 = .ok (.putfield 46, 3) := dc_181 (a := 0) (b := 46) (n := 46) (by decide +kernel)
theorem dX15_widen_59 : decode cX15_widen 59 = .ok (.return_, 1) := dc_177 (by decide +kernel)
theorem GX15_37 {w : eW} {d : Nat} {Y : eY} {pc : Nat} {ls : eL} {st : List Value} {h : eH} {Q : eO → eH → Prop} {a : Nat} {x : Nat} (hf : g_A 14 h a 10 = some x) (hd : decode Y.2.1 pc = .ok (.getfield 37, 3)) (hY : Y.1.cls = RX15) (kk : wp w d Y (pc + 3) ls (.ref x :: st) h Q) : wp w d Y pc ls (.ref a :: st) h Q := x_gA (ci := 14) (k := 10) hf hd rfl (by decide) (by rw [hY]; exact q967) kk
theorem GX15_40 {w : eW} {d : Nat} {Y : eY} {pc : Nat} {ls : eL} {st : List Value} {h : eH} {Q : eO → eH → Prop} {a : Nat} {x : Nat} (hf : g_A 14 h a 11 = some x) (hd : decode Y.2.1 pc = .ok (.getfield 40, 3)) (hY : Y.1.cls = RX15) (kk : wp w d Y (pc + 3) ls (.ref x :: st) h Q) : wp w d Y pc ls (.ref a :: st) h Q := x_gA (ci := 14) (k := 11) hf hd rfl (by decide) (by rw [hY]; exact q968) kk
theorem GX15_46 {w : eW} {d : Nat} {Y : eY} {pc : Nat} {ls : eL} {st : List Value} {h : eH} {Q : eO → eH → Prop} {a : Nat} {x : Nat} (hf : g_A 14 h a 13 = some x) (hd : decode Y.2.1 pc = .ok (.getfield 46, 3)) (hY : Y.1.cls = RX15) (kk : wp w d Y (pc + 3) ls (.ref x :: st) h Q) : wp w d Y pc ls (.ref a :: st) h Q := x_gA (ci := 14) (k := 13) hf hd rfl (by decide) (by rw [hY]; exact q970) kk
def fX15_widen_b59  (h : eH) : Option (Unit × eH) :=
  some ((), h)
theorem pX15_widen_b59 {w : eW} {d : Nat} (hd : 2 ≤ d + 1)  {h : eH} {q} (hf : fX15_widen_b59  h = some q) : wp w (d + 1) YX15_widen 59 [none, none, none] [] h (e_is (e_rn c_V q)) := by
  unfold fX15_widen_b59 at hf
  cases hf
  exact w_vret dX15_widen_59 rfl rfl
def fX15_widen (this : Nat) (p0 : Int32) (h : eH) : Option (Unit × eH) :=
  (g_A 14 h this 10).bind fun a1 =>
  (fX1_grown a1 p0 h).bind fun q3 =>
  (p_V 14 q3.2 this 10 (.ref q3.1)).bind fun h4 =>
  (g_A 14 h4 this 11).bind fun a6 =>
  (fX1_grown a6 p0 h4).bind fun q8 =>
  (p_V 14 q8.2 this 11 (.ref q8.1)).bind fun h9 =>
  (g_A 14 h9 this 13).bind fun a11 =>
  (a_len h9 a11).bind fun x13 =>
  if p0 ≤ x13 then
    fX15_widen_b59 h9
  else
    (n_arr 103 182 (.int 0) h9 ((2 : Int32) * p0)).bind fun q16 =>
    (g_A 14 q16.2 this 13).bind fun a18 =>
    (g_A 14 q16.2 this 13).bind fun a20 =>
    (a_len q16.2 a20).bind fun x22 =>
    (a_cpy q16.2 a18 (0 : Int32) q16.1 (0 : Int32) x22).bind fun h24 =>
    (p_V 14 h24 this 13 (.ref q16.1)).bind fun h26 =>
    fX15_widen_b59 h26
theorem pX15_widen {w : eW} {d : Nat} (hd : 2 ≤ d) {this : Nat} {p0 : Int32} {h : eH} {q} (hf : fX15_widen this p0 h = some q) : wm w d YX15_widen [.ref this, .int p0] h (e_is (e_rn c_V q)) := by
  obtain ⟨d, rfl⟩ : ∃ e, d = e + 1 := ⟨d - 1, by omega⟩
  show wp w (d + 1) YX15_widen 0 [some (.ref this), some (.int p0), none] [] h _
  unfold fX15_widen at hf
  refine w_aload_n dX15_widen_0 rfl rfl ?_
  refine w_aload_n dX15_widen_1 rfl rfl ?_
  obtain ⟨a1, b2, hf⟩ := Option.bind_eq_some_iff.mp hf
  refine GX15_37 b2 dX15_widen_2 rfl ?_
  refine w_iload_n dX15_widen_5 rfl rfl ?_
  refine x_cnA hf (e_stSN (Yc := YX1_grown) (av := [.ref a1, .int p0]) (st := [.ref this]) dX15_widen_6 q950 mX1_grown) mX1_grown.2.2.1 mX1_grown.2.2.2.2.1 (Nat.le_of_ble_eq_true rfl) (Nat.le_of_ble_eq_true rfl) (fun q hq => pX1_grown (by omega) hq) (fun q3 hf => ?_)
  obtain ⟨h4, b5, hf⟩ := Option.bind_eq_some_iff.mp hf
  refine SX15_37 b5 dX15_widen_9 rfl ?_
  refine w_aload_n dX15_widen_12 rfl rfl ?_
  refine w_aload_n dX15_widen_13 rfl rfl ?_
  obtain ⟨a6, b7, hf⟩ := Option.bind_eq_some_iff.mp hf
  refine GX15_40 b7 dX15_widen_14 rfl ?_
  refine w_iload_n dX15_widen_17 rfl rfl ?_
  refine x_cnA hf (e_stSN (Yc := YX1_grown) (av := [.ref a6, .int p0]) (st := [.ref this]) dX15_widen_18 q950 mX1_grown) mX1_grown.2.2.1 mX1_grown.2.2.2.2.1 (Nat.le_of_ble_eq_true rfl) (Nat.le_of_ble_eq_true rfl) (fun q hq => pX1_grown (by omega) hq) (fun q8 hf => ?_)
  obtain ⟨h9, b10, hf⟩ := Option.bind_eq_some_iff.mp hf
  refine SX15_40 b10 dX15_widen_21 rfl ?_
  refine w_iload_n dX15_widen_24 rfl rfl ?_
  refine w_aload_n dX15_widen_25 rfl rfl ?_
  obtain ⟨a11, b12, hf⟩ := Option.bind_eq_some_iff.mp hf
  refine GX15_46 b12 dX15_widen_26 rfl ?_
  obtain ⟨x13, b14, hf⟩ := Option.bind_eq_some_iff.mp hf
  refine x_len b14 dX15_widen_29 ?_
  refine w_icmp_le 59 dX15_widen_30 (by decide) (fun c15 => ?_) (fun c15 => ?_)
  · replace hf := (if_pos (show p0 ≤ x13 from c15)).symm.trans hf
    exact (pX15_widen_b59 hd hf).to trivial
  · replace hf := (if_neg (show ¬ (p0 ≤ x13) from c15)).symm.trans hf
    refine w_iconst dX15_widen_33 (v := 2) (by decide) ?_
    refine w_iload_n dX15_widen_34 rfl rfl ?_
    refine w_imul dX15_widen_35 ?_
    obtain ⟨q16, b17, hf⟩ := Option.bind_eq_some_iff.mp hf
    refine x_newZ (g := 182) b17 dX15_widen_36 q583 ?_
    refine w_astore_n dX15_widen_38 rfl (by decide) (ls' := [some (.ref this), some (.int p0), some (.ref q16.1)]) rfl ?_
    refine w_aload_n dX15_widen_39 rfl rfl ?_
    obtain ⟨a18, b19, hf⟩ := Option.bind_eq_some_iff.mp hf
    refine GX15_46 b19 dX15_widen_40 rfl ?_
    refine w_iconst dX15_widen_43 (v := 0) (by decide) ?_
    refine w_aload_n dX15_widen_44 rfl rfl ?_
    refine w_iconst dX15_widen_45 (v := 0) (by decide) ?_
    refine w_aload_n dX15_widen_46 rfl rfl ?_
    obtain ⟨a20, b21, hf⟩ := Option.bind_eq_some_iff.mp hf
    refine GX15_46 b21 dX15_widen_47 rfl ?_
    obtain ⟨x22, b23, hf⟩ := Option.bind_eq_some_iff.mp hf
    refine x_len b23 dX15_widen_50 ?_
    obtain ⟨h24, b25, hf⟩ := Option.bind_eq_some_iff.mp hf
    refine x_cpy b25 dX15_widen_51 q956 q955 q954 q441 (Nat.le_of_ble_eq_true rfl) ?_
    refine w_aload_n dX15_widen_54 rfl rfl ?_
    refine w_aload_n dX15_widen_55 rfl rfl ?_
    obtain ⟨h26, b27, hf⟩ := Option.bind_eq_some_iff.mp hf
    refine SX15_46 b27 dX15_widen_56 rfl ?_
    exact (pX15_widen_b59 hd hf).to trivial
abbrev cX15_fits : ByteArray := prog_33_method_10_code
def yX15_fits : MethodName := ⟨RX15, "fits", "(II)Z"⟩
def YX15_fits : eY := (yX15_fits, cX15_fits, 5, (Option.some FieldType.boolean), [])
theorem mX15_fits : e_mv YX15_fits RX15 2 := ⟨q3135, qs109, q3136, by decide, by decide +kernel, (e_sig (by decide +kernel))⟩
theorem dX15_fits_0 : decode cX15_fits 0 = .ok (.aload_n 0, 1) := dc_42 (by decide +kernel)
theorem dX15_fits_1 : decode cX15_fits 1 = .ok (.getfield 46, 3) := dc_180 (a := 0) (b := 46) (n := 46) (by decide +kernel)
theorem dX15_fits_4 : decode cX15_fits 4 = .ok (.iload_n 2, 1) := dc_28 (by decide +kernel)
theorem dX15_fits_5 : decode cX15_fits 5 = .ok (.baload, 1) := dc_51 (by decide +kernel)
theorem dX15_fits_6 : decode cX15_fits 6 = .ok (.ifCond .ne 7, 3) := dc_154 (a := 0) (b := 7) (v := 7) (by decide +kernel)
theorem dX15_fits_9 : decode cX15_fits 9 = .ok (.iconst 1, 1) := dc_4 (by decide +kernel)
theorem dX15_fits_10 : decode cX15_fits 10 = .ok (.goto 4, 3) := dc_167 (a := 0) (b := 4) (v := 4) (by decide +kernel)
theorem dX15_fits_13 : decode cX15_fits 13 = .ok (.iconst 0, 1) := dc_3 (by decide +kernel)
theorem dX15_fits_14 : decode cX15_fits 14 = .ok (.istore_n 3, 1) := dc_62 (by decide +kernel)
theorem dX15_fits_15 : decode cX15_fits 15 = .ok (.aload_n 0, 1) := dc_42 (by decide +kernel)
theorem dX15_fits_16 : decode cX15_fits 16 = .ok (.getfield 9, 3) := dc_180 (a := 0) (b := 9) (n := 9) (by decide +kernel)
theorem dX15_fits_19 : decode cX15_fits 19 = .ok (.iload_n 1, 1) := dc_27 (by decide +kernel)
theorem dX15_fits_20 : decode cX15_fits 20 = .ok (.iaload, 1) := dc_46 (by decide +kernel)
theorem dX15_fits_21 : decode cX15_fits 21 = .ok (.istore 4, 2) := dc_54 (a := 4) (by decide +kernel)
theorem dX15_fits_23 : decode cX15_fits 23 = .ok (.iload 4, 2) := dc_21 (a := 4) (by decide +kernel)
theorem dX15_fits_25 : decode cX15_fits 25 = .ok (.iconst (-1), 1) := dc_2 (by decide +kernel)
theorem dX15_fits_26 : decode cX15_fits 26 = .ok (.if_icmp .eq 42, 3) := dc_159 (a := 0) (b := 42) (v := 42) (by decide +kernel)
theorem dX15_fits_29 : decode cX15_fits 29 = .ok (.iload_n 3, 1) := dc_29 (by decide +kernel)
theorem dX15_fits_30 : decode cX15_fits 30 = .ok (.ifCond .eq 38, 3) := dc_153 (a := 0) (b := 38) (v := 38) (by decide +kernel)
theorem dX15_fits_33 : decode cX15_fits 33 = .ok (.aload_n 0, 1) := dc_42 (by decide +kernel)
theorem dX15_fits_34 : decode cX15_fits 34 = .ok (.getfield 37, 3) := dc_180 (a := 0) (b := 37) (n := 37) (by decide +kernel)
theorem dX15_fits_37 : decode cX15_fits 37 = .ok (.iload_n 2, 1) := dc_28 (by decide +kernel)
theorem dX15_fits_38 : decode cX15_fits 38 = .ok (.aload_n 0, 1) := dc_42 (by decide +kernel)
theorem dX15_fits_39 : decode cX15_fits 39 = .ok (.getfield 18, 3) := dc_180 (a := 0) (b := 18) (n := 18) (by decide +kernel)
theorem dX15_fits_42 : decode cX15_fits 42 = .ok (.iload 4, 2) := dc_21 (a := 4) (by decide +kernel)
theorem dX15_fits_44 : decode cX15_fits 44 = .ok (.baload, 1) := dc_51 (by decide +kernel)
theorem dX15_fits_45 : decode cX15_fits 45 = .ok (.iadd, 1) := dc_96 (by decide +kernel)
theorem dX15_fits_46 : decode cX15_fits 46 = .ok (.iaload, 1) := dc_46 (by decide +kernel)
theorem dX15_fits_47 : decode cX15_fits 47 = .ok (.ifCond .ne 7, 3) := dc_154 (a := 0) (b := 7) (v := 7) (by decide +kernel)
theorem dX15_fits_50 : decode cX15_fits 50 = .ok (.iconst 1, 1) := dc_4 (by decide +kernel)
theorem dX15_fits_51 : decode cX15_fits 51 = .ok (.goto 4, 3) := dc_167 (a := 0) (b := 4) (v := 4) (by decide +kernel)
theorem dX15_fits_54 : decode cX15_fits 54 = .ok (.iconst 0, 1) := dc_3 (by decide +kernel)
theorem dX15_fits_55 : decode cX15_fits 55 = .ok (.istore_n 3, 1) := dc_62 (by decide +kernel)
theorem dX15_fits_56 : decode cX15_fits 56 = .ok (.aload_n 0, 1) := dc_42 (by decide +kernel)
theorem dX15_fits_57 : decode cX15_fits 57 = .ok (.getfield 15, 3) := dc_180 (a := 0) (b := 15) (n := 15) (by decide +kernel)
theorem dX15_fits_60 : decode cX15_fits 60 = .ok (.iload 4, 2) := dc_21 (a := 4) (by decide +kernel)
theorem dX15_fits_62 : decode cX15_fits 62 = .ok (.iaload, 1) := dc_46 (by decide +kernel)
theorem dX15_fits_63 : decode cX15_fits 63 = .ok (.istore 4, 2) := dc_54 (a := 4) (by decide +kernel)
theorem dX15_fits_65 : decode cX15_fits 65 = .ok (.goto (-42), 3) := dc_167 (a := 255) (b := 214) (v := -42) (by decide +kernel)
theorem dX15_fits_68 : decode cX15_fits 68 = .ok (.iload_n 3, 1) := dc_29 (by decide +kernel)
theorem dX15_fits_69 : decode cX15_fits 69 = .ok (.ireturn, 1) := dc_172 (by decide +kernel)
def fX15_fits_b55 (N : Nat) (k23 : Nat → Int32 → Int32 → Int32 → eH → Option (Int32 × eH)) (l0 : Nat) (l2 : Int32) (l4 : Int32) (s0 : Int32) (h : eH) : Option (Int32 × eH) :=
  (g_A 14 h l0 1).bind fun a1 =>
  (r_I 100 h a1 l4).bind fun x3 =>
  k23 l0 l2 s0 x3 h
theorem pX15_fits_b55 {w : eW} {d : Nat} (hd : 0 ≤ d) {N : Nat} {k23 : Nat → Int32 → Int32 → Int32 → eH → Option (Int32 × eH)} (hk23 : ∀ l0 l2 l3 l4 h q, k23 l0 l2 l3 l4 h = some q → wp w d YX15_fits 23 [some (.ref l0), none, some (.int l2), some (.int l3), some (.int l4)] [] h (e_is (e_rn c_I q))) {l0 : Nat} {l2 : Int32} {l4 : Int32} {s0 : Int32} {h : eH} {q} (hf : fX15_fits_b55 N k23 l0 l2 l4 s0 h = some q) : wp w d YX15_fits 55 [some (.ref l0), none, some (.int l2), none, some (.int l4)] [.int s0] h (e_is (e_rn c_I q)) := by
  unfold fX15_fits_b55 at hf
  refine w_istore_n dX15_fits_55 rfl (by decide) (ls' := [some (.ref l0), none, some (.int l2), some (.int s0), some (.int l4)]) rfl ?_
  refine w_aload_n dX15_fits_56 rfl rfl ?_
  obtain ⟨a1, b2, hf⟩ := Option.bind_eq_some_iff.mp hf
  refine GX15_15 b2 dX15_fits_57 rfl ?_
  refine w_iload dX15_fits_60 rfl ?_
  obtain ⟨x3, b4, hf⟩ := Option.bind_eq_some_iff.mp hf
  refine x_rI b4 dX15_fits_62 ?_
  refine w_istore dX15_fits_63 (by decide) (ls' := [some (.ref l0), none, some (.int l2), some (.int s0), some (.int x3)]) rfl ?_
  refine w_goto 23 dX15_fits_65 (by decide) ?_
  exact (hk23 _ _ _ _ _ _ hf).to ⟨rfl, rfl, rfl, rfl, trivial⟩
def fX15_fits_b68 (N : Nat) (l3 : Int32) (h : eH) : Option (Int32 × eH) :=
  z_r l3 (l3, h)
theorem pX15_fits_b68 {w : eW} {d : Nat} (hd : 0 ≤ d) {N : Nat} {l3 : Int32} {h : eH} {q} (hf : fX15_fits_b68 N l3 h = some q) : wp w d YX15_fits 68 [none, none, none, some (.int l3), none] [] h (e_is (e_rn c_I q)) := by
  unfold fX15_fits_b68 at hf
  refine w_iload_n dX15_fits_68 rfl rfl ?_
  obtain ⟨b1, rfl⟩ := z_r_some hf
  exact w_iret dX15_fits_69 rfl b1 rfl
def fX15_fits_b23 (N : Nat) : Nat → Nat → Int32 → Int32 → Int32 → eH → Option (Int32 × eH)
  | 0, _, _, _, _, _ => none
  | n + 1, l0, l2, l3, l4, h =>
    if l4 = (-1 : Int32) then
      fX15_fits_b68 N l3 h
    else
      if l3 = 0 then
        fX15_fits_b68 N l3 h
      else
        (g_A 14 h l0 10).bind fun a3 =>
        (g_A 14 h l0 2).bind fun a5 =>
        (r_I 102 h a5 l4).bind fun x7 =>
        (r_I 100 h a3 (l2 + x7)).bind fun x9 =>
        if ¬ x9 = 0 then
          fX15_fits_b55 N (fX15_fits_b23 N n) l0 l2 l4 (0 : Int32) h
        else
          fX15_fits_b55 N (fX15_fits_b23 N n) l0 l2 l4 (1 : Int32) h
theorem pX15_fits_b23 {w : eW} {d : Nat} (hd : 0 ≤ d) {N : Nat} : ∀ (n : Nat) l0 l2 l3 l4 h q, fX15_fits_b23 N n l0 l2 l3 l4 h = some q → wp w d YX15_fits 23 [some (.ref l0), none, some (.int l2), some (.int l3), some (.int l4)] [] h (e_is (e_rn c_I q)) := by
  intro n
  induction n with
  | zero => intro l0 l2 l3 l4 h q hf; simp [fX15_fits_b23] at hf
  | succ n ih =>
    intro l0 l2 l3 l4 h q hf
    rw [fX15_fits_b23] at hf
    refine w_iload dX15_fits_23 rfl ?_
    refine w_iconst dX15_fits_25 (v := -1) (by decide) ?_
    refine w_icmp_eq 68 dX15_fits_26 (by decide) (fun c1 => ?_) (fun c1 => ?_)
    · replace hf := (if_pos (show l4 = (-1 : Int32) from c1)).symm.trans hf
      exact (pX15_fits_b68 hd hf).to ⟨rfl, trivial⟩
    · replace hf := (if_neg (show ¬ (l4 = (-1 : Int32)) from c1)).symm.trans hf
      refine w_iload_n dX15_fits_29 rfl rfl ?_
      refine w_if_eq 68 dX15_fits_30 (by decide) (fun c2 => ?_) (fun c2 => ?_)
      · replace hf := (if_pos (show l3 = 0 from c2)).symm.trans hf
        exact (pX15_fits_b68 hd hf).to ⟨rfl, trivial⟩
      · replace hf := (if_neg (show ¬ (l3 = 0) from c2)).symm.trans hf
        refine w_aload_n dX15_fits_33 rfl rfl ?_
        obtain ⟨a3, b4, hf⟩ := Option.bind_eq_some_iff.mp hf
        refine GX15_37 b4 dX15_fits_34 rfl ?_
        refine w_iload_n dX15_fits_37 rfl rfl ?_
        refine w_aload_n dX15_fits_38 rfl rfl ?_
        obtain ⟨a5, b6, hf⟩ := Option.bind_eq_some_iff.mp hf
        refine GX15_18 b6 dX15_fits_39 rfl ?_
        refine w_iload dX15_fits_42 rfl ?_
        obtain ⟨x7, b8, hf⟩ := Option.bind_eq_some_iff.mp hf
        refine x_rB b8 dX15_fits_44 ?_
        refine w_iadd dX15_fits_45 ?_
        obtain ⟨x9, b10, hf⟩ := Option.bind_eq_some_iff.mp hf
        refine x_rI b10 dX15_fits_46 ?_
        refine w_if_ne 54 dX15_fits_47 (by decide) (fun c11 => ?_) (fun c11 => ?_)
        · replace hf := (if_pos (show ¬ x9 = 0 from c11)).symm.trans hf
          refine w_iconst dX15_fits_54 (v := 0) (by decide) ?_
          exact (pX15_fits_b55 hd ih hf).to ⟨rfl, rfl, rfl, trivial⟩
        · replace hf := (if_neg (show ¬ (¬ x9 = 0) from (fun z => z c11))).symm.trans hf
          refine w_iconst dX15_fits_50 (v := 1) (by decide) ?_
          refine w_goto 55 dX15_fits_51 (by decide) ?_
          exact (pX15_fits_b55 hd ih hf).to ⟨rfl, rfl, rfl, trivial⟩
def fX15_fits_b14 (N : Nat) (l0 : Nat) (l1 : Int32) (l2 : Int32) (s0 : Int32) (h : eH) : Option (Int32 × eH) :=
  (g_A 14 h l0 0).bind fun a1 =>
  (r_I 100 h a1 l1).bind fun x3 =>
  fX15_fits_b23 N N l0 l2 s0 x3 h
theorem pX15_fits_b14 {w : eW} {d : Nat} (hd : 0 ≤ d) {N : Nat} {l0 : Nat} {l1 : Int32} {l2 : Int32} {s0 : Int32} {h : eH} {q} (hf : fX15_fits_b14 N l0 l1 l2 s0 h = some q) : wp w d YX15_fits 14 [some (.ref l0), some (.int l1), some (.int l2), none, none] [.int s0] h (e_is (e_rn c_I q)) := by
  unfold fX15_fits_b14 at hf
  refine w_istore_n dX15_fits_14 rfl (by decide) (ls' := [some (.ref l0), some (.int l1), some (.int l2), some (.int s0), none]) rfl ?_
  refine w_aload_n dX15_fits_15 rfl rfl ?_
  obtain ⟨a1, b2, hf⟩ := Option.bind_eq_some_iff.mp hf
  refine GX15_9 b2 dX15_fits_16 rfl ?_
  refine w_iload_n dX15_fits_19 rfl rfl ?_
  obtain ⟨x3, b4, hf⟩ := Option.bind_eq_some_iff.mp hf
  refine x_rI b4 dX15_fits_20 ?_
  refine w_istore dX15_fits_21 (by decide) (ls' := [some (.ref l0), some (.int l1), some (.int l2), some (.int s0), some (.int x3)]) rfl ?_
  exact (pX15_fits_b23 hd N _ _ _ _ _ _ hf).to ⟨rfl, rfl, rfl, rfl, trivial⟩
def fX15_fits (N : Nat) (this : Nat) (p0 : Int32) (p1 : Int32) (h : eH) : Option (Int32 × eH) :=
  (g_A 14 h this 13).bind fun a1 =>
  (r_I 103 h a1 p1).bind fun x3 =>
  if ¬ x3 = 0 then
    fX15_fits_b14 N this p0 p1 (0 : Int32) h
  else
    fX15_fits_b14 N this p0 p1 (1 : Int32) h
theorem pX15_fits {w : eW} {d : Nat} (hd : 0 ≤ d) {N : Nat} {this : Nat} {p0 : Int32} {p1 : Int32} {h : eH} {q} (hf : fX15_fits N this p0 p1 h = some q) : wm w d YX15_fits [.ref this, .int p0, .int p1] h (e_is (e_rn c_I q)) := by
  show wp w d YX15_fits 0 [some (.ref this), some (.int p0), some (.int p1), none, none] [] h _
  unfold fX15_fits at hf
  refine w_aload_n dX15_fits_0 rfl rfl ?_
  obtain ⟨a1, b2, hf⟩ := Option.bind_eq_some_iff.mp hf
  refine GX15_46 b2 dX15_fits_1 rfl ?_
  refine w_iload_n dX15_fits_4 rfl rfl ?_
  obtain ⟨x3, b4, hf⟩ := Option.bind_eq_some_iff.mp hf
  refine x_rZ b4 dX15_fits_5 ?_
  refine w_if_ne 13 dX15_fits_6 (by decide) (fun c5 => ?_) (fun c5 => ?_)
  · replace hf := (if_pos (show ¬ x3 = 0 from c5)).symm.trans hf
    refine w_iconst dX15_fits_13 (v := 0) (by decide) ?_
    exact (pX15_fits_b14 hd hf).to ⟨rfl, rfl, rfl, trivial⟩
  · replace hf := (if_neg (show ¬ (¬ x3 = 0) from (fun z => z c5))).symm.trans hf
    refine w_iconst dX15_fits_9 (v := 1) (by decide) ?_
    refine w_goto 14 dX15_fits_10 (by decide) ?_
    exact (pX15_fits_b14 hd hf).to ⟨rfl, rfl, rfl, trivial⟩
abbrev cX15_lay : ByteArray := prog_33_method_12_code
def yX15_lay : MethodName := ⟨RX15, "lay", "(I)V"⟩
def YX15_lay : eY := (yX15_lay, cX15_lay, 4, none, [])
theorem mX15_lay : e_mv YX15_lay RX15 1 := ⟨q3127, qs107, q3128, by decide, by decide +kernel, (e_sig (by decide +kernel))⟩
theorem dX15_lay_0 : decode cX15_lay 0 = .ok (.iconst 0, 1) := dc_3 (by decide +kernel)
theorem dX15_lay_1 : decode cX15_lay 1 = .ok (.istore_n 2, 1) := dc_61 (by decide +kernel)
theorem dX15_lay_2 : decode cX15_lay 2 = .ok (.aload_n 0, 1) := dc_42 (by decide +kernel)
theorem dX15_lay_3 : decode cX15_lay 3 = .ok (.iload_n 2, 1) := dc_28 (by decide +kernel)
theorem dX15_lay_4 : decode cX15_lay 4 = .ok (.bipush 63, 2) := dc_16 (a := 63) (v := 63) (by decide +kernel)
theorem dX15_lay_6 : decode cX15_lay 6 = .ok (.iadd, 1) := dc_96 (by decide +kernel)
theorem dX15_lay_7 : decode cX15_lay 7 = .ok (.iconst 1, 1) := dc_4 (by decide +kernel)
theorem dX15_lay_8 : decode cX15_lay 8 = .ok (.iadd, 1) := dc_96 (by decide +kernel)
theorem dX15_lay_9 : decode cX15_lay 9 = .ok (.invokevirtual 123, 3) := dc_182 (a := 0) (b := 123) (n := 123) (by decide +kernel)
theorem dX15_lay_12 : decode cX15_lay 12 = .ok (.aload_n 0, 1) := dc_42 (by decide +kernel)
theorem dX15_lay_13 : decode cX15_lay 13 = .ok (.iload_n 1, 1) := dc_27 (by decide +kernel)
theorem dX15_lay_14 : decode cX15_lay 14 = .ok (.iload_n 2, 1) := dc_28 (by decide +kernel)
theorem dX15_lay_15 : decode cX15_lay 15 = .ok (.invokevirtual 127, 3) := dc_182 (a := 0) (b := 127) (n := 127) (by decide +kernel)
theorem dX15_lay_18 : decode cX15_lay 18 = .ok (.ifCond .ne 19, 3) := dc_154 (a := 0) (b := 19) (v := 19) (by decide +kernel)
theorem dX15_lay_21 : decode cX15_lay 21 = .ok (.iinc 2 1, 3) := dc_132 (a := 2) (b := 1) (v := 1) (by decide +kernel)
theorem dX15_lay_24 : decode cX15_lay 24 = .ok (.aload_n 0, 1) := dc_42 (by decide +kernel)
theorem dX15_lay_25 : decode cX15_lay 25 = .ok (.iload_n 2, 1) := dc_28 (by decide +kernel)
theorem dX15_lay_26 : decode cX15_lay 26 = .ok (.bipush 63, 2) := dc_16 (a := 63) (v := 63) (by decide +kernel)
theorem dX15_lay_28 : decode cX15_lay 28 = .ok (.iadd, 1) := dc_96 (by decide +kernel)
theorem dX15_lay_29 : decode cX15_lay 29 = .ok (.iconst 1, 1) := dc_4 (by decide +kernel)
theorem dX15_lay_30 : decode cX15_lay 30 = .ok (.iadd, 1) := dc_96 (by decide +kernel)
theorem dX15_lay_31 : decode cX15_lay 31 = .ok (.invokevirtual 123, 3) := dc_182 (a := 0) (b := 123) (n := 123) (by decide +kernel)
theorem dX15_lay_34 : decode cX15_lay 34 = .ok (.goto (-22), 3) := dc_167 (a := 255) (b := 234) (v := -22) (by decide +kernel)
theorem dX15_lay_37 : decode cX15_lay 37 = .ok (.aload_n 0, 1) := dc_42 (by decide +kernel)
theorem dX15_lay_38 : decode cX15_lay 38 = .ok (.getfield 43, 3) := dc_180 (a := 0) (b := 43) (n := 43) (by decide +kernel)
theorem dX15_lay_41 : decode cX15_lay 41 = .ok (.iload_n 1, 1) := dc_27 (by decide +kernel)
theorem dX15_lay_42 : decode cX15_lay 42 = .ok (.iload_n 2, 1) := dc_28 (by decide +kernel)
theorem dX15_lay_43 : decode cX15_lay 43 = .ok (.iastore, 1) := dc_79 (by decide +kernel)
theorem dX15_lay_44 : decode cX15_lay 44 = .ok (.aload_n 0, 1) := dc_42 (by decide +kernel)
theorem dX15_lay_45 : decode cX15_lay 45 = .ok (.getfield 46, 3) := dc_180 (a := 0) (b := 46) (n := 46) (by decide +kernel)
theorem dX15_lay_48 : decode cX15_lay 48 = .ok (.iload_n 2, 1) := dc_28 (by decide +kernel)
theorem dX15_lay_49 : decode cX15_lay 49 = .ok (.iconst 1, 1) := dc_4 (by decide +kernel)
theorem dX15_lay_50 : decode cX15_lay 50 = .ok (.bastore, 1) := dc_84 (by decide +kernel)
theorem dX15_lay_51 : decode cX15_lay 51 = .ok (.aload_n 0, 1) := dc_42 (by decide +kernel)
theorem dX15_lay_52 : decode cX15_lay 52 = .ok (.aload_n 0, 1) := dc_42 (by decide +kernel)
theorem dX15_lay_53 : decode cX15_lay 53 = .ok (.getfield 131, 3) := dc_180 (a := 0) (b := 131) (n := 131) (by decide +kernel)
theorem dX15_lay_56 : decode cX15_lay 56 = .ok (.iload_n 2, 1) := dc_28 (by decide +kernel)
theorem dX15_lay_57 : decode cX15_lay 57 = .ok (.bipush 63, 2) := dc_16 (a := 63) (v := 63) (by decide +kernel)
theorem dX15_lay_59 : decode cX15_lay 59 = .ok (.iadd, 1) := dc_96 (by decide +kernel)
theorem dX15_lay_60 : decode cX15_lay 60 = .ok (.iconst 1, 1) := dc_4 (by decide +kernel)
theorem dX15_lay_61 : decode cX15_lay 61 = .ok (.iadd, 1) := dc_96 (by decide +kernel)
theorem dX15_lay_62 : decode cX15_lay 62 = .ok (.invokestatic 134, 3) := dc_184 (a := 0) (b := 134) (n := 134) (by decide +kernel)
theorem dX15_lay_65 : decode cX15_lay 65 = .ok (.putfield 131, 3) := dc_181 (a := 0) (b := 131) (n := 131) (by decide +kernel)
theorem dX15_lay_68 : decode cX15_lay 68 = .ok (.aload_n 0, 1) := dc_42 (by decide +kernel)
theorem dX15_lay_69 : decode cX15_lay 69 = .ok (.getfield 9, 3) := dc_180 (a := 0) (b := 9) (n := 9) (by decide +kernel)
theorem dX15_lay_72 : decode cX15_lay 72 = .ok (.iload_n 1, 1) := dc_27 (by decide +kernel)
theorem dX15_lay_73 : decode cX15_lay 73 = .ok (.iaload, 1) := dc_46 (by decide +kernel)
theorem dX15_lay_74 : decode cX15_lay 74 = .ok (.istore_n 3, 1) := dc_62 (by decide +kernel)
theorem dX15_lay_75 : decode cX15_lay 75 = .ok (.iload_n 3, 1) := dc_29 (by decide +kernel)
theorem dX15_lay_76 : decode cX15_lay 76 = .ok (.iconst (-1), 1) := dc_2 (by decide +kernel)
theorem dX15_lay_77 : decode cX15_lay 77 = .ok (.if_icmp .eq 48, 3) := dc_159 (a := 0) (b := 48) (v := 48) (by decide +kernel)
theorem dX15_lay_80 : decode cX15_lay 80 = .ok (.aload_n 0, 1) := dc_42 (by decide +kernel)
theorem dX15_lay_81 : decode cX15_lay 81 = .ok (.getfield 37, 3) := dc_180 (a := 0) (b := 37) (n := 37) (by decide +kernel)
theorem dX15_lay_84 : decode cX15_lay 84 = .ok (.iload_n 2, 1) := dc_28 (by decide +kernel)
theorem dX15_lay_85 : decode cX15_lay 85 = .ok (.aload_n 0, 1) := dc_42 (by decide +kernel)
theorem dX15_lay_86 : decode cX15_lay 86 = .ok (.getfield 18, 3) := dc_180 (a := 0) (b := 18) (n := 18) (by decide +kernel)
theorem dX15_lay_89 : decode cX15_lay 89 = .ok (.iload_n 3, 1) := dc_29 (by decide +kernel)
theorem dX15_lay_90 : decode cX15_lay 90 = .ok (.baload, 1) := dc_51 (by decide +kernel)
theorem dX15_lay_91 : decode cX15_lay 91 = .ok (.iadd, 1) := dc_96 (by decide +kernel)
theorem dX15_lay_92 : decode cX15_lay 92 = .ok (.aload_n 0, 1) := dc_42 (by decide +kernel)
theorem dX15_lay_93 : decode cX15_lay 93 = .ok (.getfield 18, 3) := dc_180 (a := 0) (b := 18) (n := 18) (by decide +kernel)
theorem dX15_lay_96 : decode cX15_lay 96 = .ok (.iload_n 3, 1) := dc_29 (by decide +kernel)
theorem dX15_lay_97 : decode cX15_lay 97 = .ok (.baload, 1) := dc_51 (by decide +kernel)
theorem dX15_lay_98 : decode cX15_lay 98 = .ok (.iconst 1, 1) := dc_4 (by decide +kernel)
theorem dX15_lay_99 : decode cX15_lay 99 = .ok (.iadd, 1) := dc_96 (by decide +kernel)
theorem dX15_lay_100 : decode cX15_lay 100 = .ok (.iastore, 1) := dc_79 (by decide +kernel)
theorem dX15_lay_101 : decode cX15_lay 101 = .ok (.aload_n 0, 1) := dc_42 (by decide +kernel)
theorem dX15_lay_102 : decode cX15_lay 102 = .ok (.getfield 40, 3) := dc_180 (a := 0) (b := 40) (n := 40) (by decide +kernel)
theorem dX15_lay_105 : decode cX15_lay 105 = .ok (.iload_n 2, 1) := dc_28 (by decide +kernel)
theorem dX15_lay_106 : decode cX15_lay 106 = .ok (.aload_n 0, 1) := dc_42 (by decide +kernel)
theorem dX15_lay_107 : decode cX15_lay 107 = .ok (.getfield 18, 3) := dc_180 (a := 0) (b := 18) (n := 18) (by decide +kernel)
theorem dX15_lay_110 : decode cX15_lay 110 = .ok (.iload_n 3, 1) := dc_29 (by decide +kernel)
theorem dX15_lay_111 : decode cX15_lay 111 = .ok (.baload, 1) := dc_51 (by decide +kernel)
theorem dX15_lay_112 : decode cX15_lay 112 = .ok (.iadd, 1) := dc_96 (by decide +kernel)
theorem dX15_lay_113 : decode cX15_lay 113 = .ok (.iload_n 3, 1) := dc_29 (by decide +kernel)
theorem dX15_lay_114 : decode cX15_lay 114 = .ok (.iastore, 1) := dc_79 (by decide +kernel)
theorem dX15_lay_115 : decode cX15_lay 115 = .ok (.aload_n 0, 1) := dc_42 (by decide +kernel)
theorem dX15_lay_116 : decode cX15_lay 116 = .ok (.getfield 15, 3) := dc_180 (a := 0) (b := 15) (n := 15) (by decide +kernel)
theorem dX15_lay_119 : decode cX15_lay 119 = .ok (.iload_n 3, 1) := dc_29 (by decide +kernel)
theorem dX15_lay_120 : decode cX15_lay 120 = .ok (.iaload, 1) := dc_46 (by decide +kernel)
theorem dX15_lay_121 : decode cX15_lay 121 = .ok (.istore_n 3, 1) := dc_62 (by decide +kernel)
theorem dX15_lay_122 : decode cX15_lay 122 = .ok (.goto (-47), 3) := dc_167 (a := 255) (b := 209) (v := -47) (by decide +kernel)
theorem dX15_lay_125 : decode cX15_lay 125 = .ok (.return_, 1) := dc_177 (by decide +kernel)
theorem GX15_131 {w : eW} {d : Nat} {Y : eY} {pc : Nat} {ls : eL} {st : List Value} {h : eH} {Q : eO → eH → Prop} {a : Nat} {x : Int32} (hf : g_I 14 h a 14 = some x) (hd : decode Y.2.1 pc = .ok (.getfield 131, 3)) (hY : Y.1.cls = RX15) (kk : wp w d Y (pc + 3) ls (.int x :: st) h Q) : wp w d Y pc ls (.ref a :: st) h Q := x_gI (ci := 14) (k := 14) hf hd rfl (by decide) (by rw [hY]; exact q971) kk
theorem SX15_131 {w : eW} {d : Nat} {Y : eY} {pc : Nat} {ls : eL} {st : List Value} {h : eH} {Q : eO → eH → Prop} {a : Nat} {h' : eH} {x : Int32} (hf : p_V 14 h a 14 (.int x) = some h') (hd : decode Y.2.1 pc = .ok (.putfield 131, 3)) (hY : Y.1.cls = RX15) (kk : wp w d Y (pc + 3) ls st h' Q) : wp w d Y pc ls (.int x :: .ref a :: st) h Q := x_pI (ci := 14) (k := 14) hf hd rfl (by decide) (by rw [hY]; exact q971) rfl rfl kk
def fX15_lay_b75 (N : Nat) : Nat → Nat → Int32 → Int32 → eH → Option (Unit × eH)
  | 0, _, _, _, _ => none
  | n + 1, l0, l2, l3, h =>
    if l3 = (-1 : Int32) then
      some ((), h)
    else
      (g_A 14 h l0 10).bind fun a2 =>
      (g_A 14 h l0 2).bind fun a4 =>
      (r_I 102 h a4 l3).bind fun x6 =>
      (g_A 14 h l0 2).bind fun a8 =>
      (r_I 102 h a8 l3).bind fun x10 =>
      (q_V 100 h a2 (l2 + x6) (.int (x10 + (1 : Int32)))).bind fun h12 =>
      (g_A 14 h12 l0 11).bind fun a14 =>
      (g_A 14 h12 l0 2).bind fun a16 =>
      (r_I 102 h12 a16 l3).bind fun x18 =>
      (q_V 100 h12 a14 (l2 + x18) (.int l3)).bind fun h20 =>
      (g_A 14 h20 l0 1).bind fun a22 =>
      (r_I 100 h20 a22 l3).bind fun x24 =>
      fX15_lay_b75 N n l0 l2 x24 h20
theorem pX15_lay_b75 {w : eW} {d : Nat} (hd : 3 ≤ d + 1) {N : Nat} : ∀ (n : Nat) l0 l2 l3 h q, fX15_lay_b75 N n l0 l2 l3 h = some q → wp w (d + 1) YX15_lay 75 [some (.ref l0), none, some (.int l2), some (.int l3)] [] h (e_is (e_rn c_V q)) := by
  intro n
  induction n with
  | zero => intro l0 l2 l3 h q hf; simp [fX15_lay_b75] at hf
  | succ n ih =>
    intro l0 l2 l3 h q hf
    rw [fX15_lay_b75] at hf
    refine w_iload_n dX15_lay_75 rfl rfl ?_
    refine w_iconst dX15_lay_76 (v := -1) (by decide) ?_
    refine w_icmp_eq 125 dX15_lay_77 (by decide) (fun c1 => ?_) (fun c1 => ?_)
    · replace hf := (if_pos (show l3 = (-1 : Int32) from c1)).symm.trans hf
      cases hf
      exact w_vret dX15_lay_125 rfl rfl
    · replace hf := (if_neg (show ¬ (l3 = (-1 : Int32)) from c1)).symm.trans hf
      refine w_aload_n dX15_lay_80 rfl rfl ?_
      obtain ⟨a2, b3, hf⟩ := Option.bind_eq_some_iff.mp hf
      refine GX15_37 b3 dX15_lay_81 rfl ?_
      refine w_iload_n dX15_lay_84 rfl rfl ?_
      refine w_aload_n dX15_lay_85 rfl rfl ?_
      obtain ⟨a4, b5, hf⟩ := Option.bind_eq_some_iff.mp hf
      refine GX15_18 b5 dX15_lay_86 rfl ?_
      refine w_iload_n dX15_lay_89 rfl rfl ?_
      obtain ⟨x6, b7, hf⟩ := Option.bind_eq_some_iff.mp hf
      refine x_rB b7 dX15_lay_90 ?_
      refine w_iadd dX15_lay_91 ?_
      refine w_aload_n dX15_lay_92 rfl rfl ?_
      obtain ⟨a8, b9, hf⟩ := Option.bind_eq_some_iff.mp hf
      refine GX15_18 b9 dX15_lay_93 rfl ?_
      refine w_iload_n dX15_lay_96 rfl rfl ?_
      obtain ⟨x10, b11, hf⟩ := Option.bind_eq_some_iff.mp hf
      refine x_rB b11 dX15_lay_97 ?_
      refine w_iconst dX15_lay_98 (v := 1) (by decide) ?_
      refine w_iadd dX15_lay_99 ?_
      obtain ⟨h12, b13, hf⟩ := Option.bind_eq_some_iff.mp hf
      refine x_qI b13 dX15_lay_100 ?_
      refine w_aload_n dX15_lay_101 rfl rfl ?_
      obtain ⟨a14, b15, hf⟩ := Option.bind_eq_some_iff.mp hf
      refine GX15_40 b15 dX15_lay_102 rfl ?_
      refine w_iload_n dX15_lay_105 rfl rfl ?_
      refine w_aload_n dX15_lay_106 rfl rfl ?_
      obtain ⟨a16, b17, hf⟩ := Option.bind_eq_some_iff.mp hf
      refine GX15_18 b17 dX15_lay_107 rfl ?_
      refine w_iload_n dX15_lay_110 rfl rfl ?_
      obtain ⟨x18, b19, hf⟩ := Option.bind_eq_some_iff.mp hf
      refine x_rB b19 dX15_lay_111 ?_
      refine w_iadd dX15_lay_112 ?_
      refine w_iload_n dX15_lay_113 rfl rfl ?_
      obtain ⟨h20, b21, hf⟩ := Option.bind_eq_some_iff.mp hf
      refine x_qI b21 dX15_lay_114 ?_
      refine w_aload_n dX15_lay_115 rfl rfl ?_
      obtain ⟨a22, b23, hf⟩ := Option.bind_eq_some_iff.mp hf
      refine GX15_15 b23 dX15_lay_116 rfl ?_
      refine w_iload_n dX15_lay_119 rfl rfl ?_
      obtain ⟨x24, b25, hf⟩ := Option.bind_eq_some_iff.mp hf
      refine x_rI b25 dX15_lay_120 ?_
      refine w_istore_n dX15_lay_121 rfl (by decide) (ls' := [some (.ref l0), none, some (.int l2), some (.int x24)]) rfl ?_
      refine w_goto 75 dX15_lay_122 (by decide) ?_
      exact (ih _ _ _ _ _ hf).to ⟨rfl, rfl, rfl, trivial⟩
def fX15_lay_b12 (N : Nat) : Nat → Nat → Int32 → Int32 → eH → Option (Unit × eH)
  | 0, _, _, _, _ => none
  | n + 1, l0, l1, l2, h =>
    (k_ok 14 h l0).bind fun _ =>
    (fX15_fits N l0 l1 l2 h).bind fun q2 =>
    if ¬ q2.1 = 0 then
      (g_A 14 q2.2 l0 12).bind fun a4 =>
      (q_V 100 q2.2 a4 l1 (.int l2)).bind fun h6 =>
      (g_A 14 h6 l0 13).bind fun a8 =>
      (q_V 103 h6 a8 l2 (.int ((1 : Int32) &&& 1))).bind fun h10 =>
      (g_I 14 h10 l0 14).bind fun x12 =>
      (p_V 14 h10 l0 14 (.int (m_maxI x12 ((l2 + (63 : Int32)) + (1 : Int32))))).bind fun h14 =>
      (g_A 14 h14 l0 0).bind fun a16 =>
      (r_I 100 h14 a16 l1).bind fun x18 =>
      fX15_lay_b75 N N l0 l2 x18 h14
    else
      (k_ok 14 q2.2 l0).bind fun _ =>
      (fX15_widen l0 (((l2 + (1 : Int32)) + (63 : Int32)) + (1 : Int32)) q2.2).bind fun q21 =>
      fX15_lay_b12 N n l0 l1 (l2 + (1 : Int32)) q21.2
theorem pX15_lay_b12 {w : eW} {d : Nat} (hd : 3 ≤ d + 1) {N : Nat} : ∀ (n : Nat) l0 l1 l2 h q, fX15_lay_b12 N n l0 l1 l2 h = some q → wp w (d + 1) YX15_lay 12 [some (.ref l0), some (.int l1), some (.int l2), none] [] h (e_is (e_rn c_V q)) := by
  intro n
  induction n with
  | zero => intro l0 l1 l2 h q hf; simp [fX15_lay_b12] at hf
  | succ n ih =>
    intro l0 l1 l2 h q hf
    rw [fX15_lay_b12] at hf
    refine w_aload_n dX15_lay_12 rfl rfl ?_
    refine w_iload_n dX15_lay_13 rfl rfl ?_
    refine w_iload_n dX15_lay_14 rfl rfl ?_
    obtain ⟨_, b1, hf⟩ := Option.bind_eq_some_iff.mp hf
    refine x_cnI hf (e_stV (Yc := YX15_fits) (ci := 14) (av := [.int l1, .int l2]) (st := []) dX15_lay_15 q3133 mX15_fits rfl (k_ok_some b1).1 (k_ok_some b1).2) mX15_fits.2.2.1 mX15_fits.2.2.2.2.1 (Nat.le_of_ble_eq_true rfl) (Nat.le_of_ble_eq_true rfl) (fun q hq => pX15_fits (by omega) hq) (fun q2 hf => ?_)
    refine w_if_ne 37 dX15_lay_18 (by decide) (fun c3 => ?_) (fun c3 => ?_)
    · replace hf := (if_pos (show ¬ q2.1 = 0 from c3)).symm.trans hf
      refine w_aload_n dX15_lay_37 rfl rfl ?_
      obtain ⟨a4, b5, hf⟩ := Option.bind_eq_some_iff.mp hf
      refine GX15_43 b5 dX15_lay_38 rfl ?_
      refine w_iload_n dX15_lay_41 rfl rfl ?_
      refine w_iload_n dX15_lay_42 rfl rfl ?_
      obtain ⟨h6, b7, hf⟩ := Option.bind_eq_some_iff.mp hf
      refine x_qI b7 dX15_lay_43 ?_
      refine w_aload_n dX15_lay_44 rfl rfl ?_
      obtain ⟨a8, b9, hf⟩ := Option.bind_eq_some_iff.mp hf
      refine GX15_46 b9 dX15_lay_45 rfl ?_
      refine w_iload_n dX15_lay_48 rfl rfl ?_
      refine w_iconst dX15_lay_49 (v := 1) (by decide) ?_
      obtain ⟨h10, b11, hf⟩ := Option.bind_eq_some_iff.mp hf
      refine x_qZ b11 dX15_lay_50 ?_
      refine w_aload_n dX15_lay_51 rfl rfl ?_
      refine w_aload_n dX15_lay_52 rfl rfl ?_
      obtain ⟨x12, b13, hf⟩ := Option.bind_eq_some_iff.mp hf
      refine GX15_131 b13 dX15_lay_53 rfl ?_
      refine w_iload_n dX15_lay_56 rfl rfl ?_
      refine w_bipush dX15_lay_57 (v := 63) (by decide) ?_
      refine w_iadd dX15_lay_59 ?_
      refine w_iconst dX15_lay_60 (v := 1) (by decide) ?_
      refine w_iadd dX15_lay_61 ?_
      refine x_maxI dX15_lay_62 q3137 q2912 q478 q2913 (Nat.le_of_ble_eq_true rfl) ?_
      obtain ⟨h14, b15, hf⟩ := Option.bind_eq_some_iff.mp hf
      refine SX15_131 b15 dX15_lay_65 rfl ?_
      refine w_aload_n dX15_lay_68 rfl rfl ?_
      obtain ⟨a16, b17, hf⟩ := Option.bind_eq_some_iff.mp hf
      refine GX15_9 b17 dX15_lay_69 rfl ?_
      refine w_iload_n dX15_lay_72 rfl rfl ?_
      obtain ⟨x18, b19, hf⟩ := Option.bind_eq_some_iff.mp hf
      refine x_rI b19 dX15_lay_73 ?_
      refine w_istore_n dX15_lay_74 rfl (by decide) (ls' := [some (.ref l0), some (.int l1), some (.int l2), some (.int x18)]) rfl ?_
      exact (pX15_lay_b75 hd N _ _ _ _ _ hf).to ⟨rfl, rfl, rfl, trivial⟩
    · replace hf := (if_neg (show ¬ (¬ q2.1 = 0) from (fun z => z c3))).symm.trans hf
      refine w_iinc dX15_lay_21 (v := (l2 + (1 : Int32))) rfl rfl (by decide) (ls' := [some (.ref l0), some (.int l1), some (.int (l2 + (1 : Int32))), none]) rfl ?_
      refine w_aload_n dX15_lay_24 rfl rfl ?_
      refine w_iload_n dX15_lay_25 rfl rfl ?_
      refine w_bipush dX15_lay_26 (v := 63) (by decide) ?_
      refine w_iadd dX15_lay_28 ?_
      refine w_iconst dX15_lay_29 (v := 1) (by decide) ?_
      refine w_iadd dX15_lay_30 ?_
      obtain ⟨_, b20, hf⟩ := Option.bind_eq_some_iff.mp hf
      refine x_cnV hf (e_stV (Yc := YX15_widen) (ci := 14) (av := [.int (((l2 + (1 : Int32)) + (63 : Int32)) + (1 : Int32))]) (st := []) dX15_lay_31 q3129 mX15_widen rfl (k_ok_some b20).1 (k_ok_some b20).2) mX15_widen.2.2.1 mX15_widen.2.2.2.2.1 (Nat.le_of_ble_eq_true rfl) (Nat.le_of_ble_eq_true rfl) (fun q hq => pX15_widen (by omega) hq) (fun q21 hf => ?_)
      refine w_goto 12 dX15_lay_34 (by decide) ?_
      exact (ih _ _ _ _ _ hf).to ⟨rfl, rfl, rfl, trivial⟩
def fX15_lay (N : Nat) (this : Nat) (p0 : Int32) (h : eH) : Option (Unit × eH) :=
  (k_ok 14 h this).bind fun _ =>
  (fX15_widen this (((0 : Int32) + (63 : Int32)) + (1 : Int32)) h).bind fun q2 =>
  fX15_lay_b12 N N this p0 (0 : Int32) q2.2
theorem pX15_lay {w : eW} {d : Nat} (hd : 3 ≤ d) {N : Nat} {this : Nat} {p0 : Int32} {h : eH} {q} (hf : fX15_lay N this p0 h = some q) : wm w d YX15_lay [.ref this, .int p0] h (e_is (e_rn c_V q)) := by
  obtain ⟨d, rfl⟩ : ∃ e, d = e + 1 := ⟨d - 1, by omega⟩
  show wp w (d + 1) YX15_lay 0 [some (.ref this), some (.int p0), none, none] [] h _
  unfold fX15_lay at hf
  refine w_iconst dX15_lay_0 (v := 0) (by decide) ?_
  refine w_istore_n dX15_lay_1 rfl (by decide) (ls' := [some (.ref this), some (.int p0), some (.int (0 : Int32)), none]) rfl ?_
  refine w_aload_n dX15_lay_2 rfl rfl ?_
  refine w_iload_n dX15_lay_3 rfl rfl ?_
  refine w_bipush dX15_lay_4 (v := 63) (by decide) ?_
  refine w_iadd dX15_lay_6 ?_
  refine w_iconst dX15_lay_7 (v := 1) (by decide) ?_
  refine w_iadd dX15_lay_8 ?_
  obtain ⟨_, b1, hf⟩ := Option.bind_eq_some_iff.mp hf
  refine x_cnV hf (e_stV (Yc := YX15_widen) (ci := 14) (av := [.int (((0 : Int32) + (63 : Int32)) + (1 : Int32))]) (st := []) dX15_lay_9 q3129 mX15_widen rfl (k_ok_some b1).1 (k_ok_some b1).2) mX15_widen.2.2.1 mX15_widen.2.2.2.2.1 (Nat.le_of_ble_eq_true rfl) (Nat.le_of_ble_eq_true rfl) (fun q hq => pX15_widen (by omega) hq) (fun q2 hf => ?_)
  exact (pX15_lay_b12 hd N _ _ _ _ _ hf).to ⟨rfl, rfl, rfl, trivial⟩
abbrev cX15_pack : ByteArray := prog_33_method_13_code
def yX15_pack : MethodName := ⟨RX15, "pack", "()V"⟩
def YX15_pack : eY := (yX15_pack, cX15_pack, 2, none, [])
theorem mX15_pack : e_mv YX15_pack RX15 0 := ⟨q3123, qs106, q3124, by decide, by decide +kernel, (e_sig (by decide +kernel))⟩
theorem dX15_pack_0 : decode cX15_pack 0 = .ok (.iconst 0, 1) := dc_3 (by decide +kernel)
theorem dX15_pack_1 : decode cX15_pack 1 = .ok (.istore_n 1, 1) := dc_60 (by decide +kernel)
theorem dX15_pack_2 : decode cX15_pack 2 = .ok (.iload_n 1, 1) := dc_27 (by decide +kernel)
theorem dX15_pack_3 : decode cX15_pack 3 = .ok (.aload_n 0, 1) := dc_42 (by decide +kernel)
theorem dX15_pack_4 : decode cX15_pack 4 = .ok (.getfield 131, 3) := dc_180 (a := 0) (b := 131) (n := 131) (by decide +kernel)
theorem dX15_pack_7 : decode cX15_pack 7 = .ok (.if_icmp .ge 23, 3) := dc_162 (a := 0) (b := 23) (v := 23) (by decide +kernel)
theorem dX15_pack_10 : decode cX15_pack 10 = .ok (.aload_n 0, 1) := dc_42 (by decide +kernel)
theorem dX15_pack_11 : decode cX15_pack 11 = .ok (.getfield 37, 3) := dc_180 (a := 0) (b := 37) (n := 37) (by decide +kernel)
theorem dX15_pack_14 : decode cX15_pack 14 = .ok (.iload_n 1, 1) := dc_27 (by decide +kernel)
theorem dX15_pack_15 : decode cX15_pack 15 = .ok (.iconst 0, 1) := dc_3 (by decide +kernel)
theorem dX15_pack_16 : decode cX15_pack 16 = .ok (.iastore, 1) := dc_79 (by decide +kernel)
theorem dX15_pack_17 : decode cX15_pack 17 = .ok (.aload_n 0, 1) := dc_42 (by decide +kernel)
theorem dX15_pack_18 : decode cX15_pack 18 = .ok (.getfield 46, 3) := dc_180 (a := 0) (b := 46) (n := 46) (by decide +kernel)
theorem dX15_pack_21 : decode cX15_pack 21 = .ok (.iload_n 1, 1) := dc_27 (by decide +kernel)
theorem dX15_pack_22 : decode cX15_pack 22 = .ok (.iconst 0, 1) := dc_3 (by decide +kernel)
theorem dX15_pack_23 : decode cX15_pack 23 = .ok (.bastore, 1) := dc_84 (by decide +kernel)
theorem dX15_pack_24 : decode cX15_pack 24 = .ok (.iinc 1 1, 3) := dc_132 (a := 1) (b := 1) (v := 1) (by decide +kernel)
theorem dX15_pack_27 : decode cX15_pack 27 = .ok (.goto (-25), 3) := dc_167 (a := 255) (b := 231) (v := -25) (by decide +kernel)
theorem dX15_pack_30 : decode cX15_pack 30 = .ok (.aload_n 0, 1) := dc_42 (by decide +kernel)
theorem dX15_pack_31 : decode cX15_pack 31 = .ok (.iconst 0, 1) := dc_3 (by decide +kernel)
theorem dX15_pack_32 : decode cX15_pack 32 = .ok (.putfield 131, 3) := dc_181 (a := 0) (b := 131) (n := 131) (by decide +kernel)
theorem dX15_pack_35 : decode cX15_pack 35 = .ok (.iconst 0, 1) := dc_3 (by decide +kernel)
theorem dX15_pack_36 : decode cX15_pack 36 = .ok (.istore_n 1, 1) := dc_60 (by decide +kernel)
theorem dX15_pack_37 : decode cX15_pack 37 = .ok (.iload_n 1, 1) := dc_27 (by decide +kernel)
theorem dX15_pack_38 : decode cX15_pack 38 = .ok (.aload_n 0, 1) := dc_42 (by decide +kernel)
theorem dX15_pack_39 : decode cX15_pack 39 = .ok (.getfield 56, 3) := dc_180 (a := 0) (b := 56) (n := 56) (by decide +kernel)
theorem dX15_pack_42 : decode cX15_pack 42 = .ok (.if_icmp .ge 24, 3) := dc_162 (a := 0) (b := 24) (v := 24) (by decide +kernel)
theorem dX15_pack_45 : decode cX15_pack 45 = .ok (.aload_n 0, 1) := dc_42 (by decide +kernel)
theorem dX15_pack_46 : decode cX15_pack 46 = .ok (.getfield 9, 3) := dc_180 (a := 0) (b := 9) (n := 9) (by decide +kernel)
theorem dX15_pack_49 : decode cX15_pack 49 = .ok (.iload_n 1, 1) := dc_27 (by decide +kernel)
theorem dX15_pack_50 : decode cX15_pack 50 = .ok (.iaload, 1) := dc_46 (by decide +kernel)
theorem dX15_pack_51 : decode cX15_pack 51 = .ok (.iconst (-1), 1) := dc_2 (by decide +kernel)
theorem dX15_pack_52 : decode cX15_pack 52 = .ok (.if_icmp .eq 8, 3) := dc_159 (a := 0) (b := 8) (v := 8) (by decide +kernel)
theorem dX15_pack_55 : decode cX15_pack 55 = .ok (.aload_n 0, 1) := dc_42 (by decide +kernel)
theorem dX15_pack_56 : decode cX15_pack 56 = .ok (.iload_n 1, 1) := dc_27 (by decide +kernel)
theorem dX15_pack_57 : decode cX15_pack 57 = .ok (.invokevirtual 139, 3) := dc_182 (a := 0) (b := 139) (n := 139) (by decide +kernel)
theorem dX15_pack_60 : decode cX15_pack 60 = .ok (.iinc 1 1, 3) := dc_132 (a := 1) (b := 1) (v := 1) (by decide +kernel)
theorem dX15_pack_63 : decode cX15_pack 63 = .ok (.goto (-26), 3) := dc_167 (a := 255) (b := 230) (v := -26) (by decide +kernel)
theorem dX15_pack_66 : decode cX15_pack 66 = .ok (.aload_n 0, 1) := dc_42 (by decide +kernel)
theorem dX15_pack_67 : decode cX15_pack 67 = .ok (.iconst 1, 1) := dc_4 (by decide +kernel)
theorem dX15_pack_68 : decode cX15_pack 68 = .ok (.putfield 73, 3) := dc_181 (a := 0) (b := 73) (n := 73) (by decide +kernel)
theorem dX15_pack_71 : decode cX15_pack 71 = .ok (.return_, 1) := dc_177 (by decide +kernel)
def fX15_pack_b60 (N : Nat) (k37 : Nat → Int32 → eH → Option (Unit × eH)) (l0 : Nat) (l1 : Int32) (h : eH) : Option (Unit × eH) :=
  k37 l0 (l1 + (1 : Int32)) h
theorem pX15_pack_b60 {w : eW} {d : Nat} (hd : 4 ≤ d + 1) {N : Nat} {k37 : Nat → Int32 → eH → Option (Unit × eH)} (hk37 : ∀ l0 l1 h q, k37 l0 l1 h = some q → wp w (d + 1) YX15_pack 37 [some (.ref l0), some (.int l1)] [] h (e_is (e_rn c_V q))) {l0 : Nat} {l1 : Int32} {h : eH} {q} (hf : fX15_pack_b60 N k37 l0 l1 h = some q) : wp w (d + 1) YX15_pack 60 [some (.ref l0), some (.int l1)] [] h (e_is (e_rn c_V q)) := by
  unfold fX15_pack_b60 at hf
  refine w_iinc dX15_pack_60 (v := (l1 + (1 : Int32))) rfl rfl (by decide) (ls' := [some (.ref l0), some (.int (l1 + (1 : Int32)))]) rfl ?_
  refine w_goto 37 dX15_pack_63 (by decide) ?_
  exact (hk37 _ _ _ _ hf).to ⟨rfl, rfl, trivial⟩
def fX15_pack_b37 (N : Nat) : Nat → Nat → Int32 → eH → Option (Unit × eH)
  | 0, _, _, _ => none
  | n + 1, l0, l1, h =>
    (g_I 14 h l0 5).bind fun x1 =>
    if x1 ≤ l1 then
      (p_Z 14 h l0 15 (1 : Int32)).bind fun h4 =>
      some ((), h4)
    else
      (g_A 14 h l0 0).bind fun a6 =>
      (r_I 100 h a6 l1).bind fun x8 =>
      if x8 = (-1 : Int32) then
        fX15_pack_b60 N (fX15_pack_b37 N n) l0 l1 h
      else
        (k_ok 14 h l0).bind fun _ =>
        (fX15_lay N l0 l1 h).bind fun q12 =>
        fX15_pack_b60 N (fX15_pack_b37 N n) l0 l1 q12.2
theorem pX15_pack_b37 {w : eW} {d : Nat} (hd : 4 ≤ d + 1) {N : Nat} : ∀ (n : Nat) l0 l1 h q, fX15_pack_b37 N n l0 l1 h = some q → wp w (d + 1) YX15_pack 37 [some (.ref l0), some (.int l1)] [] h (e_is (e_rn c_V q)) := by
  intro n
  induction n with
  | zero => intro l0 l1 h q hf; simp [fX15_pack_b37] at hf
  | succ n ih =>
    intro l0 l1 h q hf
    rw [fX15_pack_b37] at hf
    refine w_iload_n dX15_pack_37 rfl rfl ?_
    refine w_aload_n dX15_pack_38 rfl rfl ?_
    obtain ⟨x1, b2, hf⟩ := Option.bind_eq_some_iff.mp hf
    refine GX15_56 b2 dX15_pack_39 rfl ?_
    refine w_icmp_ge 66 dX15_pack_42 (by decide) (fun c3 => ?_) (fun c3 => ?_)
    · replace hf := (if_pos (show x1 ≤ l1 from c3)).symm.trans hf
      refine w_aload_n dX15_pack_66 rfl rfl ?_
      refine w_iconst dX15_pack_67 (v := 1) (by decide) ?_
      obtain ⟨h4, b5, hf⟩ := Option.bind_eq_some_iff.mp hf
      refine SX15_73 b5 dX15_pack_68 rfl ?_
      cases hf
      exact w_vret dX15_pack_71 rfl rfl
    · replace hf := (if_neg (show ¬ (x1 ≤ l1) from c3)).symm.trans hf
      refine w_aload_n dX15_pack_45 rfl rfl ?_
      obtain ⟨a6, b7, hf⟩ := Option.bind_eq_some_iff.mp hf
      refine GX15_9 b7 dX15_pack_46 rfl ?_
      refine w_iload_n dX15_pack_49 rfl rfl ?_
      obtain ⟨x8, b9, hf⟩ := Option.bind_eq_some_iff.mp hf
      refine x_rI b9 dX15_pack_50 ?_
      refine w_iconst dX15_pack_51 (v := -1) (by decide) ?_
      refine w_icmp_eq 60 dX15_pack_52 (by decide) (fun c10 => ?_) (fun c10 => ?_)
      · replace hf := (if_pos (show x8 = (-1 : Int32) from c10)).symm.trans hf
        exact (pX15_pack_b60 hd ih hf).to ⟨rfl, rfl, trivial⟩
      · replace hf := (if_neg (show ¬ (x8 = (-1 : Int32)) from c10)).symm.trans hf
        refine w_aload_n dX15_pack_55 rfl rfl ?_
        refine w_iload_n dX15_pack_56 rfl rfl ?_
        obtain ⟨_, b11, hf⟩ := Option.bind_eq_some_iff.mp hf
        refine x_cnV hf (e_stV (Yc := YX15_lay) (ci := 14) (av := [.int l1]) (st := []) dX15_pack_57 q3125 mX15_lay rfl (k_ok_some b11).1 (k_ok_some b11).2) mX15_lay.2.2.1 mX15_lay.2.2.2.2.1 (Nat.le_of_ble_eq_true rfl) (Nat.le_of_ble_eq_true rfl) (fun q hq => pX15_lay (by omega) hq) (fun q12 hf => ?_)
        exact (pX15_pack_b60 hd ih hf).to ⟨rfl, rfl, trivial⟩
def fX15_pack_b2 (N : Nat) : Nat → Nat → Int32 → eH → Option (Unit × eH)
  | 0, _, _, _ => none
  | n + 1, l0, l1, h =>
    (g_I 14 h l0 14).bind fun x1 =>
    if x1 ≤ l1 then
      (p_V 14 h l0 14 (.int (0 : Int32))).bind fun h4 =>
      fX15_pack_b37 N N l0 (0 : Int32) h4
    else
      (g_A 14 h l0 10).bind fun a6 =>
      (q_V 100 h a6 l1 (.int (0 : Int32))).bind fun h8 =>
      (g_A 14 h8 l0 13).bind fun a10 =>
      (q_V 103 h8 a10 l1 (.int ((0 : Int32) &&& 1))).bind fun h12 =>
      fX15_pack_b2 N n l0 (l1 + (1 : Int32)) h12
theorem pX15_pack_b2 {w : eW} {d : Nat} (hd : 4 ≤ d + 1) {N : Nat} : ∀ (n : Nat) l0 l1 h q, fX15_pack_b2 N n l0 l1 h = some q → wp w (d + 1) YX15_pack 2 [some (.ref l0), some (.int l1)] [] h (e_is (e_rn c_V q)) := by
  intro n
  induction n with
  | zero => intro l0 l1 h q hf; simp [fX15_pack_b2] at hf
  | succ n ih =>
    intro l0 l1 h q hf
    rw [fX15_pack_b2] at hf
    refine w_iload_n dX15_pack_2 rfl rfl ?_
    refine w_aload_n dX15_pack_3 rfl rfl ?_
    obtain ⟨x1, b2, hf⟩ := Option.bind_eq_some_iff.mp hf
    refine GX15_131 b2 dX15_pack_4 rfl ?_
    refine w_icmp_ge 30 dX15_pack_7 (by decide) (fun c3 => ?_) (fun c3 => ?_)
    · replace hf := (if_pos (show x1 ≤ l1 from c3)).symm.trans hf
      refine w_aload_n dX15_pack_30 rfl rfl ?_
      refine w_iconst dX15_pack_31 (v := 0) (by decide) ?_
      obtain ⟨h4, b5, hf⟩ := Option.bind_eq_some_iff.mp hf
      refine SX15_131 b5 dX15_pack_32 rfl ?_
      refine w_iconst dX15_pack_35 (v := 0) (by decide) ?_
      refine w_istore_n dX15_pack_36 rfl (by decide) (ls' := [some (.ref l0), some (.int (0 : Int32))]) rfl ?_
      exact (pX15_pack_b37 hd N _ _ _ _ hf).to ⟨rfl, rfl, trivial⟩
    · replace hf := (if_neg (show ¬ (x1 ≤ l1) from c3)).symm.trans hf
      refine w_aload_n dX15_pack_10 rfl rfl ?_
      obtain ⟨a6, b7, hf⟩ := Option.bind_eq_some_iff.mp hf
      refine GX15_37 b7 dX15_pack_11 rfl ?_
      refine w_iload_n dX15_pack_14 rfl rfl ?_
      refine w_iconst dX15_pack_15 (v := 0) (by decide) ?_
      obtain ⟨h8, b9, hf⟩ := Option.bind_eq_some_iff.mp hf
      refine x_qI b9 dX15_pack_16 ?_
      refine w_aload_n dX15_pack_17 rfl rfl ?_
      obtain ⟨a10, b11, hf⟩ := Option.bind_eq_some_iff.mp hf
      refine GX15_46 b11 dX15_pack_18 rfl ?_
      refine w_iload_n dX15_pack_21 rfl rfl ?_
      refine w_iconst dX15_pack_22 (v := 0) (by decide) ?_
      obtain ⟨h12, b13, hf⟩ := Option.bind_eq_some_iff.mp hf
      refine x_qZ b13 dX15_pack_23 ?_
      refine w_iinc dX15_pack_24 (v := (l1 + (1 : Int32))) rfl rfl (by decide) (ls' := [some (.ref l0), some (.int (l1 + (1 : Int32)))]) rfl ?_
      refine w_goto 2 dX15_pack_27 (by decide) ?_
      exact (ih _ _ _ _ hf).to ⟨rfl, rfl, trivial⟩
def fX15_pack (N : Nat) (this : Nat) (h : eH) : Option (Unit × eH) :=
  fX15_pack_b2 N N this (0 : Int32) h
theorem pX15_pack {w : eW} {d : Nat} (hd : 4 ≤ d) {N : Nat} {this : Nat} {h : eH} {q} (hf : fX15_pack N this h = some q) : wm w d YX15_pack [.ref this] h (e_is (e_rn c_V q)) := by
  obtain ⟨d, rfl⟩ : ∃ e, d = e + 1 := ⟨d - 1, by omega⟩
  show wp w (d + 1) YX15_pack 0 [some (.ref this), none] [] h _
  unfold fX15_pack at hf
  refine w_iconst dX15_pack_0 (v := 0) (by decide) ?_
  refine w_istore_n dX15_pack_1 rfl (by decide) (ls' := [some (.ref this), some (.int (0 : Int32))]) rfl ?_
  exact (pX15_pack_b2 hd N _ _ _ _ hf).to ⟨rfl, rfl, trivial⟩
abbrev cX15_say : ByteArray := prog_33_method_15_code
def yX15_say : MethodName := ⟨RX15, "say", "(IILTypeHouse$Letters;)V"⟩
def YX15_say : eY := (yX15_say, cX15_say, 6, none, [])
theorem mX15_say : e_mv YX15_say RX15 3 := ⟨q3140, qs110, q3141, by decide, by decide +kernel, (e_sig (by decide +kernel))⟩
theorem dX15_say_0 : decode cX15_say 0 = .ok (.iconst 0, 1) := dc_3 (by decide +kernel)
theorem dX15_say_1 : decode cX15_say 1 = .ok (.aload_n 0, 1) := dc_42 (by decide +kernel)
theorem dX15_say_2 : decode cX15_say 2 = .ok (.getfield 22, 3) := dc_180 (a := 0) (b := 22) (n := 22) (by decide +kernel)
theorem dX15_say_5 : decode cX15_say 5 = .ok (.iload_n 1, 1) := dc_27 (by decide +kernel)
theorem dX15_say_6 : decode cX15_say 6 = .ok (.iaload, 1) := dc_46 (by decide +kernel)
theorem dX15_say_7 : decode cX15_say 7 = .ok (.invokestatic 134, 3) := dc_184 (a := 0) (b := 134) (n := 134) (by decide +kernel)
theorem dX15_say_10 : decode cX15_say 10 = .ok (.istore 4, 2) := dc_54 (a := 4) (by decide +kernel)
theorem dX15_say_12 : decode cX15_say 12 = .ok (.iload 4, 2) := dc_21 (a := 4) (by decide +kernel)
theorem dX15_say_14 : decode cX15_say 14 = .ok (.ifCond .le 51, 3) := dc_158 (a := 0) (b := 51) (v := 51) (by decide +kernel)
theorem dX15_say_17 : decode cX15_say 17 = .ok (.iload_n 2, 1) := dc_28 (by decide +kernel)
theorem dX15_say_18 : decode cX15_say 18 = .ok (.aload_n 0, 1) := dc_42 (by decide +kernel)
theorem dX15_say_19 : decode cX15_say 19 = .ok (.getfield 28, 3) := dc_180 (a := 0) (b := 28) (n := 28) (by decide +kernel)
theorem dX15_say_22 : decode cX15_say 22 = .ok (.iload 4, 2) := dc_21 (a := 4) (by decide +kernel)
theorem dX15_say_24 : decode cX15_say 24 = .ok (.iaload, 1) := dc_46 (by decide +kernel)
theorem dX15_say_25 : decode cX15_say 25 = .ok (.isub, 1) := dc_100 (by decide +kernel)
theorem dX15_say_26 : decode cX15_say 26 = .ok (.istore 5, 2) := dc_54 (a := 5) (by decide +kernel)
theorem dX15_say_28 : decode cX15_say 28 = .ok (.aload_n 3, 1) := dc_45 (by decide +kernel)
theorem dX15_say_29 : decode cX15_say 29 = .ok (.getfield 98, 3) := dc_180 (a := 0) (b := 98) (n := 98) (by decide +kernel)
theorem dX15_say_32 : decode cX15_say 32 = .ok (.iload 5, 2) := dc_21 (a := 5) (by decide +kernel)
theorem dX15_say_34 : decode cX15_say 34 = .ok (.aload_n 3, 1) := dc_45 (by decide +kernel)
theorem dX15_say_35 : decode cX15_say 35 = .ok (.getfield 98, 3) := dc_180 (a := 0) (b := 98) (n := 98) (by decide +kernel)
theorem dX15_say_38 : decode cX15_say 38 = .ok (.iload 5, 2) := dc_21 (a := 5) (by decide +kernel)
theorem dX15_say_40 : decode cX15_say 40 = .ok (.baload, 1) := dc_51 (by decide +kernel)
theorem dX15_say_41 : decode cX15_say 41 = .ok (.aload_n 0, 1) := dc_42 (by decide +kernel)
theorem dX15_say_42 : decode cX15_say 42 = .ok (.getfield 31, 3) := dc_180 (a := 0) (b := 31) (n := 31) (by decide +kernel)
theorem dX15_say_45 : decode cX15_say 45 = .ok (.iload 4, 2) := dc_21 (a := 4) (by decide +kernel)
theorem dX15_say_47 : decode cX15_say 47 = .ok (.iaload, 1) := dc_46 (by decide +kernel)
theorem dX15_say_48 : decode cX15_say 48 = .ok (.invokestatic 134, 3) := dc_184 (a := 0) (b := 134) (n := 134) (by decide +kernel)
theorem dX15_say_51 : decode cX15_say 51 = .ok (.i2b, 1) := dc_145 (by decide +kernel)
theorem dX15_say_52 : decode cX15_say 52 = .ok (.bastore, 1) := dc_84 (by decide +kernel)
theorem dX15_say_53 : decode cX15_say 53 = .ok (.aload_n 0, 1) := dc_42 (by decide +kernel)
theorem dX15_say_54 : decode cX15_say 54 = .ok (.getfield 34, 3) := dc_180 (a := 0) (b := 34) (n := 34) (by decide +kernel)
theorem dX15_say_57 : decode cX15_say 57 = .ok (.iload 4, 2) := dc_21 (a := 4) (by decide +kernel)
theorem dX15_say_59 : decode cX15_say 59 = .ok (.iaload, 1) := dc_46 (by decide +kernel)
theorem dX15_say_60 : decode cX15_say 60 = .ok (.istore 4, 2) := dc_54 (a := 4) (by decide +kernel)
theorem dX15_say_62 : decode cX15_say 62 = .ok (.goto (-50), 3) := dc_167 (a := 255) (b := 206) (v := -50) (by decide +kernel)
theorem dX15_say_65 : decode cX15_say 65 = .ok (.return_, 1) := dc_177 (by decide +kernel)
def fX15_say_b12 (N : Nat) : Nat → Nat → Int32 → Nat → Int32 → eH → Option (Unit × eH)
  | 0, _, _, _, _, _ => none
  | n + 1, l0, l2, l3, l4, h =>
    if l4 ≤ 0 then
      some ((), h)
    else
      (g_A 14 h l0 6).bind fun a2 =>
      (r_I 100 h a2 l4).bind fun x4 =>
      (g_A 16 h l3 1).bind fun a6 =>
      (g_A 16 h l3 1).bind fun a8 =>
      (r_I 102 h a8 (l2 - x4)).bind fun x10 =>
      (g_A 14 h l0 7).bind fun a12 =>
      (r_I 100 h a12 l4).bind fun x14 =>
      (q_V 102 h a6 (l2 - x4) (.int (((m_maxI x10 x14)).toInt8.toInt32).toInt8.toInt32)).bind fun h16 =>
      (g_A 14 h16 l0 8).bind fun a18 =>
      (r_I 100 h16 a18 l4).bind fun x20 =>
      fX15_say_b12 N n l0 l2 l3 x20 h16
theorem pX15_say_b12 {w : eW} {d : Nat} (hd : 1 ≤ d + 1) {N : Nat} : ∀ (n : Nat) l0 l2 l3 l4 h q, fX15_say_b12 N n l0 l2 l3 l4 h = some q → wp w (d + 1) YX15_say 12 [some (.ref l0), none, some (.int l2), some (.ref l3), some (.int l4), none] [] h (e_is (e_rn c_V q)) := by
  intro n
  induction n with
  | zero => intro l0 l2 l3 l4 h q hf; simp [fX15_say_b12] at hf
  | succ n ih =>
    intro l0 l2 l3 l4 h q hf
    rw [fX15_say_b12] at hf
    refine w_iload dX15_say_12 rfl ?_
    refine w_if_le 65 dX15_say_14 (by decide) (fun c1 => ?_) (fun c1 => ?_)
    · replace hf := (if_pos (show l4 ≤ 0 from c1)).symm.trans hf
      cases hf
      exact w_vret dX15_say_65 rfl rfl
    · replace hf := (if_neg (show ¬ (l4 ≤ 0) from c1)).symm.trans hf
      refine w_iload_n dX15_say_17 rfl rfl ?_
      refine w_aload_n dX15_say_18 rfl rfl ?_
      obtain ⟨a2, b3, hf⟩ := Option.bind_eq_some_iff.mp hf
      refine GX15_28 b3 dX15_say_19 rfl ?_
      refine w_iload dX15_say_22 rfl ?_
      obtain ⟨x4, b5, hf⟩ := Option.bind_eq_some_iff.mp hf
      refine x_rI b5 dX15_say_24 ?_
      refine w_isub dX15_say_25 ?_
      refine w_istore dX15_say_26 (by decide) (ls' := [some (.ref l0), none, some (.int l2), some (.ref l3), some (.int l4), some (.int (l2 - x4))]) rfl ?_
      refine w_aload_n dX15_say_28 rfl rfl ?_
      obtain ⟨a6, b7, hf⟩ := Option.bind_eq_some_iff.mp hf
      refine GX15_98 b7 dX15_say_29 rfl ?_
      refine w_iload dX15_say_32 rfl ?_
      refine w_aload_n dX15_say_34 rfl rfl ?_
      obtain ⟨a8, b9, hf⟩ := Option.bind_eq_some_iff.mp hf
      refine GX15_98 b9 dX15_say_35 rfl ?_
      refine w_iload dX15_say_38 rfl ?_
      obtain ⟨x10, b11, hf⟩ := Option.bind_eq_some_iff.mp hf
      refine x_rB b11 dX15_say_40 ?_
      refine w_aload_n dX15_say_41 rfl rfl ?_
      obtain ⟨a12, b13, hf⟩ := Option.bind_eq_some_iff.mp hf
      refine GX15_31 b13 dX15_say_42 rfl ?_
      refine w_iload dX15_say_45 rfl ?_
      obtain ⟨x14, b15, hf⟩ := Option.bind_eq_some_iff.mp hf
      refine x_rI b15 dX15_say_47 ?_
      refine x_maxI dX15_say_48 q3137 q2912 q478 q2913 (Nat.le_of_ble_eq_true rfl) ?_
      refine w_i2b dX15_say_51 ?_
      obtain ⟨h16, b17, hf⟩ := Option.bind_eq_some_iff.mp hf
      refine x_qB b17 dX15_say_52 ?_
      refine w_aload_n dX15_say_53 rfl rfl ?_
      obtain ⟨a18, b19, hf⟩ := Option.bind_eq_some_iff.mp hf
      refine GX15_34 b19 dX15_say_54 rfl ?_
      refine w_iload dX15_say_57 rfl ?_
      obtain ⟨x20, b21, hf⟩ := Option.bind_eq_some_iff.mp hf
      refine x_rI b21 dX15_say_59 ?_
      refine w_istore dX15_say_60 (by decide) (ls' := [some (.ref l0), none, some (.int l2), some (.ref l3), some (.int x20), some (.int (l2 - x4))]) rfl ?_
      refine w_goto 12 dX15_say_62 (by decide) ?_
      exact (ih _ _ _ _ _ _ hf).to ⟨rfl, rfl, rfl, rfl, trivial⟩
def fX15_say (N : Nat) (this : Nat) (p0 : Int32) (p1 : Int32) (p2 : Nat) (h : eH) : Option (Unit × eH) :=
  (g_A 14 h this 3).bind fun a1 =>
  (r_I 100 h a1 p0).bind fun x3 =>
  fX15_say_b12 N N this p1 p2 (m_maxI (0 : Int32) x3) h
theorem pX15_say {w : eW} {d : Nat} (hd : 1 ≤ d) {N : Nat} {this : Nat} {p0 : Int32} {p1 : Int32} {p2 : Nat} {h : eH} {q} (hf : fX15_say N this p0 p1 p2 h = some q) : wm w d YX15_say [.ref this, .int p0, .int p1, .ref p2] h (e_is (e_rn c_V q)) := by
  obtain ⟨d, rfl⟩ : ∃ e, d = e + 1 := ⟨d - 1, by omega⟩
  show wp w (d + 1) YX15_say 0 [some (.ref this), some (.int p0), some (.int p1), some (.ref p2), none, none] [] h _
  unfold fX15_say at hf
  refine w_iconst dX15_say_0 (v := 0) (by decide) ?_
  refine w_aload_n dX15_say_1 rfl rfl ?_
  obtain ⟨a1, b2, hf⟩ := Option.bind_eq_some_iff.mp hf
  refine GX15_22 b2 dX15_say_2 rfl ?_
  refine w_iload_n dX15_say_5 rfl rfl ?_
  obtain ⟨x3, b4, hf⟩ := Option.bind_eq_some_iff.mp hf
  refine x_rI b4 dX15_say_6 ?_
  refine x_maxI dX15_say_7 q3137 q2912 q478 q2913 (Nat.le_of_ble_eq_true rfl) ?_
  refine w_istore dX15_say_10 (by decide) (ls' := [some (.ref this), some (.int p0), some (.int p1), some (.ref p2), some (.int (m_maxI (0 : Int32) x3)), none]) rfl ?_
  exact (pX15_say_b12 hd N _ _ _ _ _ _ hf).to ⟨rfl, rfl, rfl, rfl, trivial⟩
abbrev cX15_raise : ByteArray := prog_33_method_14_code
def yX15_raise : MethodName := ⟨RX15, "raise", "(LTypeHouse$Letters;)V"⟩
def YX15_raise : eY := (yX15_raise, cX15_raise, 7, none, [])
theorem mX15_raise : e_mv YX15_raise RX15 1 := ⟨q3118, q3119, q3120, by decide, by decide +kernel, (e_sig (by decide +kernel))⟩
theorem dX15_raise_0 : decode cX15_raise 0 = .ok (.aload_n 0, 1) := dc_42 (by decide +kernel)
theorem dX15_raise_1 : decode cX15_raise 1 = .ok (.getfield 73, 3) := dc_180 (a := 0) (b := 73) (n := 73) (by decide +kernel)
theorem dX15_raise_4 : decode cX15_raise 4 = .ok (.ifCond .ne 7, 3) := dc_154 (a := 0) (b := 7) (v := 7) (by decide +kernel)
theorem dX15_raise_7 : decode cX15_raise 7 = .ok (.aload_n 0, 1) := dc_42 (by decide +kernel)
theorem dX15_raise_8 : decode cX15_raise 8 = .ok (.invokevirtual 142, 3) := dc_182 (a := 0) (b := 142) (n := 142) (by decide +kernel)
theorem dX15_raise_11 : decode cX15_raise 11 = .ok (.iconst 0, 1) := dc_3 (by decide +kernel)
theorem dX15_raise_12 : decode cX15_raise 12 = .ok (.istore_n 2, 1) := dc_61 (by decide +kernel)
theorem dX15_raise_13 : decode cX15_raise 13 = .ok (.iload_n 2, 1) := dc_28 (by decide +kernel)
theorem dX15_raise_14 : decode cX15_raise 14 = .ok (.aload_n 1, 1) := dc_43 (by decide +kernel)
theorem dX15_raise_15 : decode cX15_raise 15 = .ok (.getfield 87, 3) := dc_180 (a := 0) (b := 87) (n := 87) (by decide +kernel)
theorem dX15_raise_18 : decode cX15_raise 18 = .ok (.if_icmp .ge 131, 3) := dc_162 (a := 0) (b := 131) (v := 131) (by decide +kernel)
theorem dX15_raise_21 : decode cX15_raise 21 = .ok (.iconst 0, 1) := dc_3 (by decide +kernel)
theorem dX15_raise_22 : decode cX15_raise 22 = .ok (.istore_n 3, 1) := dc_62 (by decide +kernel)
theorem dX15_raise_23 : decode cX15_raise 23 = .ok (.iload_n 2, 1) := dc_28 (by decide +kernel)
theorem dX15_raise_24 : decode cX15_raise 24 = .ok (.istore 4, 2) := dc_54 (a := 4) (by decide +kernel)
theorem dX15_raise_26 : decode cX15_raise 26 = .ok (.aload_n 0, 1) := dc_42 (by decide +kernel)
theorem dX15_raise_27 : decode cX15_raise 27 = .ok (.getfield 9, 3) := dc_180 (a := 0) (b := 9) (n := 9) (by decide +kernel)
theorem dX15_raise_30 : decode cX15_raise 30 = .ok (.iconst 0, 1) := dc_3 (by decide +kernel)
theorem dX15_raise_31 : decode cX15_raise 31 = .ok (.iaload, 1) := dc_46 (by decide +kernel)
theorem dX15_raise_32 : decode cX15_raise 32 = .ok (.iconst (-1), 1) := dc_2 (by decide +kernel)
theorem dX15_raise_33 : decode cX15_raise 33 = .ok (.if_icmp .eq 7, 3) := dc_159 (a := 0) (b := 7) (v := 7) (by decide +kernel)
theorem dX15_raise_36 : decode cX15_raise 36 = .ok (.iconst 1, 1) := dc_4 (by decide +kernel)
theorem dX15_raise_37 : decode cX15_raise 37 = .ok (.goto 4, 3) := dc_167 (a := 0) (b := 4) (v := 4) (by decide +kernel)
theorem dX15_raise_40 : decode cX15_raise 40 = .ok (.iconst 0, 1) := dc_3 (by decide +kernel)
theorem dX15_raise_41 : decode cX15_raise 41 = .ok (.istore 5, 2) := dc_54 (a := 5) (by decide +kernel)
theorem dX15_raise_43 : decode cX15_raise 43 = .ok (.iload 5, 2) := dc_21 (a := 5) (by decide +kernel)
theorem dX15_raise_45 : decode cX15_raise 45 = .ok (.ifCond .eq 98, 3) := dc_153 (a := 0) (b := 98) (v := 98) (by decide +kernel)
theorem dX15_raise_48 : decode cX15_raise 48 = .ok (.iload 4, 2) := dc_21 (a := 4) (by decide +kernel)
theorem dX15_raise_50 : decode cX15_raise 50 = .ok (.aload_n 1, 1) := dc_43 (by decide +kernel)
theorem dX15_raise_51 : decode cX15_raise 51 = .ok (.getfield 87, 3) := dc_180 (a := 0) (b := 87) (n := 87) (by decide +kernel)
theorem dX15_raise_54 : decode cX15_raise 54 = .ok (.if_icmp .ge 89, 3) := dc_162 (a := 0) (b := 89) (v := 89) (by decide +kernel)
theorem dX15_raise_57 : decode cX15_raise 57 = .ok (.aload_n 0, 1) := dc_42 (by decide +kernel)
theorem dX15_raise_58 : decode cX15_raise 58 = .ok (.getfield 43, 3) := dc_180 (a := 0) (b := 43) (n := 43) (by decide +kernel)
theorem dX15_raise_61 : decode cX15_raise 61 = .ok (.iload_n 3, 1) := dc_29 (by decide +kernel)
theorem dX15_raise_62 : decode cX15_raise 62 = .ok (.iaload, 1) := dc_46 (by decide +kernel)
theorem dX15_raise_63 : decode cX15_raise 63 = .ok (.aload_n 1, 1) := dc_43 (by decide +kernel)
theorem dX15_raise_64 : decode cX15_raise 64 = .ok (.getfield 92, 3) := dc_180 (a := 0) (b := 92) (n := 92) (by decide +kernel)
theorem dX15_raise_67 : decode cX15_raise 67 = .ok (.iload 4, 2) := dc_21 (a := 4) (by decide +kernel)
theorem dX15_raise_69 : decode cX15_raise 69 = .ok (.baload, 1) := dc_51 (by decide +kernel)
theorem dX15_raise_70 : decode cX15_raise 70 = .ok (.iadd, 1) := dc_96 (by decide +kernel)
theorem dX15_raise_71 : decode cX15_raise 71 = .ok (.istore 6, 2) := dc_54 (a := 6) (by decide +kernel)
theorem dX15_raise_73 : decode cX15_raise 73 = .ok (.aload_n 0, 1) := dc_42 (by decide +kernel)
theorem dX15_raise_74 : decode cX15_raise 74 = .ok (.getfield 37, 3) := dc_180 (a := 0) (b := 37) (n := 37) (by decide +kernel)
theorem dX15_raise_77 : decode cX15_raise 77 = .ok (.iload 6, 2) := dc_21 (a := 6) (by decide +kernel)
theorem dX15_raise_79 : decode cX15_raise 79 = .ok (.iaload, 1) := dc_46 (by decide +kernel)
theorem dX15_raise_80 : decode cX15_raise 80 = .ok (.aload_n 1, 1) := dc_43 (by decide +kernel)
theorem dX15_raise_81 : decode cX15_raise 81 = .ok (.getfield 92, 3) := dc_180 (a := 0) (b := 92) (n := 92) (by decide +kernel)
theorem dX15_raise_84 : decode cX15_raise 84 = .ok (.iload 4, 2) := dc_21 (a := 4) (by decide +kernel)
theorem dX15_raise_86 : decode cX15_raise 86 = .ok (.baload, 1) := dc_51 (by decide +kernel)
theorem dX15_raise_87 : decode cX15_raise 87 = .ok (.iconst 1, 1) := dc_4 (by decide +kernel)
theorem dX15_raise_88 : decode cX15_raise 88 = .ok (.iadd, 1) := dc_96 (by decide +kernel)
theorem dX15_raise_89 : decode cX15_raise 89 = .ok (.if_icmp .ne 7, 3) := dc_160 (a := 0) (b := 7) (v := 7) (by decide +kernel)
theorem dX15_raise_92 : decode cX15_raise 92 = .ok (.iconst 1, 1) := dc_4 (by decide +kernel)
theorem dX15_raise_93 : decode cX15_raise 93 = .ok (.goto 4, 3) := dc_167 (a := 0) (b := 4) (v := 4) (by decide +kernel)
theorem dX15_raise_96 : decode cX15_raise 96 = .ok (.iconst 0, 1) := dc_3 (by decide +kernel)
theorem dX15_raise_97 : decode cX15_raise 97 = .ok (.istore 5, 2) := dc_54 (a := 5) (by decide +kernel)
theorem dX15_raise_99 : decode cX15_raise 99 = .ok (.iload 5, 2) := dc_21 (a := 5) (by decide +kernel)
theorem dX15_raise_101 : decode cX15_raise 101 = .ok (.ifCond .eq 39, 3) := dc_153 (a := 0) (b := 39) (v := 39) (by decide +kernel)
theorem dX15_raise_104 : decode cX15_raise 104 = .ok (.aload_n 0, 1) := dc_42 (by decide +kernel)
theorem dX15_raise_105 : decode cX15_raise 105 = .ok (.getfield 40, 3) := dc_180 (a := 0) (b := 40) (n := 40) (by decide +kernel)
theorem dX15_raise_108 : decode cX15_raise 108 = .ok (.iload 6, 2) := dc_21 (a := 6) (by decide +kernel)
theorem dX15_raise_110 : decode cX15_raise 110 = .ok (.iaload, 1) := dc_46 (by decide +kernel)
theorem dX15_raise_111 : decode cX15_raise 111 = .ok (.istore_n 3, 1) := dc_62 (by decide +kernel)
theorem dX15_raise_112 : decode cX15_raise 112 = .ok (.iinc 4 1, 3) := dc_132 (a := 4) (b := 1) (v := 1) (by decide +kernel)
theorem dX15_raise_115 : decode cX15_raise 115 = .ok (.aload_n 0, 1) := dc_42 (by decide +kernel)
theorem dX15_raise_116 : decode cX15_raise 116 = .ok (.iload_n 3, 1) := dc_29 (by decide +kernel)
theorem dX15_raise_117 : decode cX15_raise 117 = .ok (.iload 4, 2) := dc_21 (a := 4) (by decide +kernel)
theorem dX15_raise_119 : decode cX15_raise 119 = .ok (.aload_n 1, 1) := dc_43 (by decide +kernel)
theorem dX15_raise_120 : decode cX15_raise 120 = .ok (.invokevirtual 145, 3) := dc_182 (a := 0) (b := 145) (n := 145) (by decide +kernel)
theorem dX15_raise_123 : decode cX15_raise 123 = .ok (.aload_n 0, 1) := dc_42 (by decide +kernel)
theorem dX15_raise_124 : decode cX15_raise 124 = .ok (.getfield 9, 3) := dc_180 (a := 0) (b := 9) (n := 9) (by decide +kernel)
theorem dX15_raise_127 : decode cX15_raise 127 = .ok (.iload_n 3, 1) := dc_29 (by decide +kernel)
theorem dX15_raise_128 : decode cX15_raise 128 = .ok (.iaload, 1) := dc_46 (by decide +kernel)
theorem dX15_raise_129 : decode cX15_raise 129 = .ok (.iconst (-1), 1) := dc_2 (by decide +kernel)
theorem dX15_raise_130 : decode cX15_raise 130 = .ok (.if_icmp .eq 7, 3) := dc_159 (a := 0) (b := 7) (v := 7) (by decide +kernel)
theorem dX15_raise_133 : decode cX15_raise 133 = .ok (.iconst 1, 1) := dc_4 (by decide +kernel)
theorem dX15_raise_134 : decode cX15_raise 134 = .ok (.goto 4, 3) := dc_167 (a := 0) (b := 4) (v := 4) (by decide +kernel)
theorem dX15_raise_137 : decode cX15_raise 137 = .ok (.iconst 0, 1) := dc_3 (by decide +kernel)
theorem dX15_raise_138 : decode cX15_raise 138 = .ok (.istore 5, 2) := dc_54 (a := 5) (by decide +kernel)
theorem dX15_raise_140 : decode cX15_raise 140 = .ok (.goto (-97), 3) := dc_167 (a := 255) (b := 159) (v := -97) (by decide +kernel)
theorem dX15_raise_143 : decode cX15_raise 143 = .ok (.iinc 2 1, 3) := dc_132 (a := 2) (b := 1) (v := 1) (by decide +kernel)
theorem dX15_raise_146 : decode cX15_raise 146 = .ok (.goto (-133), 3) := dc_167 (a := 255) (b := 123) (v := -133) (by decide +kernel)
theorem dX15_raise_149 : decode cX15_raise 149 = .ok (.return_, 1) := dc_177 (by decide +kernel)
def fX15_raise_b140 (N : Nat) (k43 : Nat → Nat → Int32 → Int32 → Int32 → Int32 → eH → Option (Unit × eH)) (l0 : Nat) (l1 : Nat) (l2 : Int32) (l3 : Int32) (l4 : Int32) (l5 : Int32) (h : eH) : Option (Unit × eH) :=
  k43 l0 l1 l2 l3 l4 l5 h
theorem pX15_raise_b140 {w : eW} {d : Nat} (hd : 5 ≤ d + 1) {N : Nat} {k43 : Nat → Nat → Int32 → Int32 → Int32 → Int32 → eH → Option (Unit × eH)} (hk43 : ∀ l0 l1 l2 l3 l4 l5 h q, k43 l0 l1 l2 l3 l4 l5 h = some q → wp w (d + 1) YX15_raise 43 [some (.ref l0), some (.ref l1), some (.int l2), some (.int l3), some (.int l4), some (.int l5), none] [] h (e_is (e_rn c_V q))) {l0 : Nat} {l1 : Nat} {l2 : Int32} {l3 : Int32} {l4 : Int32} {l5 : Int32} {h : eH} {q} (hf : fX15_raise_b140 N k43 l0 l1 l2 l3 l4 l5 h = some q) : wp w (d + 1) YX15_raise 140 [some (.ref l0), some (.ref l1), some (.int l2), some (.int l3), some (.int l4), some (.int l5), none] [] h (e_is (e_rn c_V q)) := by
  unfold fX15_raise_b140 at hf
  refine w_goto 43 dX15_raise_140 (by decide) ?_
  exact (hk43 _ _ _ _ _ _ _ _ hf).to ⟨rfl, rfl, rfl, rfl, rfl, rfl, trivial⟩
def fX15_raise_b138 (N : Nat) (k43 : Nat → Nat → Int32 → Int32 → Int32 → Int32 → eH → Option (Unit × eH)) (l0 : Nat) (l1 : Nat) (l2 : Int32) (l3 : Int32) (l4 : Int32) (s0 : Int32) (h : eH) : Option (Unit × eH) :=
  fX15_raise_b140 N k43 l0 l1 l2 l3 l4 s0 h
theorem pX15_raise_b138 {w : eW} {d : Nat} (hd : 5 ≤ d + 1) {N : Nat} {k43 : Nat → Nat → Int32 → Int32 → Int32 → Int32 → eH → Option (Unit × eH)} (hk43 : ∀ l0 l1 l2 l3 l4 l5 h q, k43 l0 l1 l2 l3 l4 l5 h = some q → wp w (d + 1) YX15_raise 43 [some (.ref l0), some (.ref l1), some (.int l2), some (.int l3), some (.int l4), some (.int l5), none] [] h (e_is (e_rn c_V q))) {l0 : Nat} {l1 : Nat} {l2 : Int32} {l3 : Int32} {l4 : Int32} {s0 : Int32} {h : eH} {q} (hf : fX15_raise_b138 N k43 l0 l1 l2 l3 l4 s0 h = some q) : wp w (d + 1) YX15_raise 138 [some (.ref l0), some (.ref l1), some (.int l2), some (.int l3), some (.int l4), none, none] [.int s0] h (e_is (e_rn c_V q)) := by
  unfold fX15_raise_b138 at hf
  refine w_istore dX15_raise_138 (by decide) (ls' := [some (.ref l0), some (.ref l1), some (.int l2), some (.int l3), some (.int l4), some (.int s0), none]) rfl ?_
  exact (pX15_raise_b140 hd hk43 hf).to ⟨rfl, rfl, rfl, rfl, rfl, rfl, trivial⟩
def fX15_raise_b97 (N : Nat) (k43 : Nat → Nat → Int32 → Int32 → Int32 → Int32 → eH → Option (Unit × eH)) (l0 : Nat) (l1 : Nat) (l2 : Int32) (l3 : Int32) (l4 : Int32) (l6 : Int32) (s0 : Int32) (h : eH) : Option (Unit × eH) :=
  if s0 = 0 then
    fX15_raise_b140 N k43 l0 l1 l2 l3 l4 s0 h
  else
    (g_A 14 h l0 11).bind fun a2 =>
    (r_I 100 h a2 l6).bind fun x4 =>
    (k_ok 14 h l0).bind fun _ =>
    (fX15_say N l0 x4 (l4 + (1 : Int32)) l1 h).bind fun q7 =>
    (g_A 14 q7.2 l0 0).bind fun a8 =>
    (r_I 100 q7.2 a8 x4).bind fun x10 =>
    if x10 = (-1 : Int32) then
      fX15_raise_b138 N k43 l0 l1 l2 x4 (l4 + (1 : Int32)) (0 : Int32) q7.2
    else
      fX15_raise_b138 N k43 l0 l1 l2 x4 (l4 + (1 : Int32)) (1 : Int32) q7.2
theorem pX15_raise_b97 {w : eW} {d : Nat} (hd : 5 ≤ d + 1) {N : Nat} {k43 : Nat → Nat → Int32 → Int32 → Int32 → Int32 → eH → Option (Unit × eH)} (hk43 : ∀ l0 l1 l2 l3 l4 l5 h q, k43 l0 l1 l2 l3 l4 l5 h = some q → wp w (d + 1) YX15_raise 43 [some (.ref l0), some (.ref l1), some (.int l2), some (.int l3), some (.int l4), some (.int l5), none] [] h (e_is (e_rn c_V q))) {l0 : Nat} {l1 : Nat} {l2 : Int32} {l3 : Int32} {l4 : Int32} {l6 : Int32} {s0 : Int32} {h : eH} {q} (hf : fX15_raise_b97 N k43 l0 l1 l2 l3 l4 l6 s0 h = some q) : wp w (d + 1) YX15_raise 97 [some (.ref l0), some (.ref l1), some (.int l2), some (.int l3), some (.int l4), none, some (.int l6)] [.int s0] h (e_is (e_rn c_V q)) := by
  unfold fX15_raise_b97 at hf
  refine w_istore dX15_raise_97 (by decide) (ls' := [some (.ref l0), some (.ref l1), some (.int l2), some (.int l3), some (.int l4), some (.int s0), some (.int l6)]) rfl ?_
  refine w_iload dX15_raise_99 rfl ?_
  refine w_if_eq 140 dX15_raise_101 (by decide) (fun c1 => ?_) (fun c1 => ?_)
  · replace hf := (if_pos (show s0 = 0 from c1)).symm.trans hf
    exact (pX15_raise_b140 hd hk43 hf).to ⟨rfl, rfl, rfl, rfl, rfl, rfl, trivial⟩
  · replace hf := (if_neg (show ¬ (s0 = 0) from c1)).symm.trans hf
    refine w_aload_n dX15_raise_104 rfl rfl ?_
    obtain ⟨a2, b3, hf⟩ := Option.bind_eq_some_iff.mp hf
    refine GX15_40 b3 dX15_raise_105 rfl ?_
    refine w_iload dX15_raise_108 rfl ?_
    obtain ⟨x4, b5, hf⟩ := Option.bind_eq_some_iff.mp hf
    refine x_rI b5 dX15_raise_110 ?_
    refine w_istore_n dX15_raise_111 rfl (by decide) (ls' := [some (.ref l0), some (.ref l1), some (.int l2), some (.int x4), some (.int l4), some (.int s0), some (.int l6)]) rfl ?_
    refine w_iinc dX15_raise_112 (v := (l4 + (1 : Int32))) rfl rfl (by decide) (ls' := [some (.ref l0), some (.ref l1), some (.int l2), some (.int x4), some (.int (l4 + (1 : Int32))), some (.int s0), some (.int l6)]) rfl ?_
    refine w_aload_n dX15_raise_115 rfl rfl ?_
    refine w_iload_n dX15_raise_116 rfl rfl ?_
    refine w_iload dX15_raise_117 rfl ?_
    refine w_aload_n dX15_raise_119 rfl rfl ?_
    obtain ⟨_, b6, hf⟩ := Option.bind_eq_some_iff.mp hf
    refine x_cnV hf (e_stV (Yc := YX15_say) (ci := 14) (av := [.int x4, .int (l4 + (1 : Int32)), .ref l1]) (st := []) dX15_raise_120 q3138 mX15_say rfl (k_ok_some b6).1 (k_ok_some b6).2) mX15_say.2.2.1 mX15_say.2.2.2.2.1 (Nat.le_of_ble_eq_true rfl) (Nat.le_of_ble_eq_true rfl) (fun q hq => pX15_say (by omega) hq) (fun q7 hf => ?_)
    refine w_aload_n dX15_raise_123 rfl rfl ?_
    obtain ⟨a8, b9, hf⟩ := Option.bind_eq_some_iff.mp hf
    refine GX15_9 b9 dX15_raise_124 rfl ?_
    refine w_iload_n dX15_raise_127 rfl rfl ?_
    obtain ⟨x10, b11, hf⟩ := Option.bind_eq_some_iff.mp hf
    refine x_rI b11 dX15_raise_128 ?_
    refine w_iconst dX15_raise_129 (v := -1) (by decide) ?_
    refine w_icmp_eq 137 dX15_raise_130 (by decide) (fun c12 => ?_) (fun c12 => ?_)
    · replace hf := (if_pos (show x10 = (-1 : Int32) from c12)).symm.trans hf
      refine w_iconst dX15_raise_137 (v := 0) (by decide) ?_
      exact (pX15_raise_b138 hd hk43 hf).to ⟨rfl, rfl, rfl, rfl, rfl, trivial⟩
    · replace hf := (if_neg (show ¬ (x10 = (-1 : Int32)) from c12)).symm.trans hf
      refine w_iconst dX15_raise_133 (v := 1) (by decide) ?_
      refine w_goto 138 dX15_raise_134 (by decide) ?_
      exact (pX15_raise_b138 hd hk43 hf).to ⟨rfl, rfl, rfl, rfl, rfl, trivial⟩
def fX15_raise_b143 (N : Nat) (k13 : Nat → Nat → Int32 → eH → Option (Unit × eH)) (l0 : Nat) (l1 : Nat) (l2 : Int32) (h : eH) : Option (Unit × eH) :=
  k13 l0 l1 (l2 + (1 : Int32)) h
theorem pX15_raise_b143 {w : eW} {d : Nat} (hd : 5 ≤ d + 1) {N : Nat} {k13 : Nat → Nat → Int32 → eH → Option (Unit × eH)} (hk13 : ∀ l0 l1 l2 h q, k13 l0 l1 l2 h = some q → wp w (d + 1) YX15_raise 13 [some (.ref l0), some (.ref l1), some (.int l2), none, none, none, none] [] h (e_is (e_rn c_V q))) {l0 : Nat} {l1 : Nat} {l2 : Int32} {h : eH} {q} (hf : fX15_raise_b143 N k13 l0 l1 l2 h = some q) : wp w (d + 1) YX15_raise 143 [some (.ref l0), some (.ref l1), some (.int l2), none, none, none, none] [] h (e_is (e_rn c_V q)) := by
  unfold fX15_raise_b143 at hf
  refine w_iinc dX15_raise_143 (v := (l2 + (1 : Int32))) rfl rfl (by decide) (ls' := [some (.ref l0), some (.ref l1), some (.int (l2 + (1 : Int32))), none, none, none, none]) rfl ?_
  refine w_goto 13 dX15_raise_146 (by decide) ?_
  exact (hk13 _ _ _ _ _ hf).to ⟨rfl, rfl, rfl, trivial⟩
def fX15_raise_b43 (N : Nat) (k13 : Nat → Nat → Int32 → eH → Option (Unit × eH)) : Nat → Nat → Nat → Int32 → Int32 → Int32 → Int32 → eH → Option (Unit × eH)
  | 0, _, _, _, _, _, _, _ => none
  | n + 1, l0, l1, l2, l3, l4, l5, h =>
    if l5 = 0 then
      fX15_raise_b143 N k13 l0 l1 l2 h
    else
      (g_I 16 h l1 2).bind fun x2 =>
      if x2 ≤ l4 then
        fX15_raise_b143 N k13 l0 l1 l2 h
      else
        (g_A 14 h l0 12).bind fun a5 =>
        (r_I 100 h a5 l3).bind fun x7 =>
        (g_A 16 h l1 0).bind fun a9 =>
        (r_I 102 h a9 l4).bind fun x11 =>
        (g_A 14 h l0 10).bind fun a13 =>
        (r_I 100 h a13 (x7 + x11)).bind fun x15 =>
        (g_A 16 h l1 0).bind fun a17 =>
        (r_I 102 h a17 l4).bind fun x19 =>
        if ¬ x15 = (x19 + (1 : Int32)) then
          fX15_raise_b97 N (fX15_raise_b43 N k13 n) l0 l1 l2 l3 l4 (x7 + x11) (0 : Int32) h
        else
          fX15_raise_b97 N (fX15_raise_b43 N k13 n) l0 l1 l2 l3 l4 (x7 + x11) (1 : Int32) h
theorem pX15_raise_b43 {w : eW} {d : Nat} (hd : 5 ≤ d + 1) {N : Nat} {k13 : Nat → Nat → Int32 → eH → Option (Unit × eH)} (hk13 : ∀ l0 l1 l2 h q, k13 l0 l1 l2 h = some q → wp w (d + 1) YX15_raise 13 [some (.ref l0), some (.ref l1), some (.int l2), none, none, none, none] [] h (e_is (e_rn c_V q))) : ∀ (n : Nat) l0 l1 l2 l3 l4 l5 h q, fX15_raise_b43 N k13 n l0 l1 l2 l3 l4 l5 h = some q → wp w (d + 1) YX15_raise 43 [some (.ref l0), some (.ref l1), some (.int l2), some (.int l3), some (.int l4), some (.int l5), none] [] h (e_is (e_rn c_V q)) := by
  intro n
  induction n with
  | zero => intro l0 l1 l2 l3 l4 l5 h q hf; simp [fX15_raise_b43] at hf
  | succ n ih =>
    intro l0 l1 l2 l3 l4 l5 h q hf
    rw [fX15_raise_b43] at hf
    refine w_iload dX15_raise_43 rfl ?_
    refine w_if_eq 143 dX15_raise_45 (by decide) (fun c1 => ?_) (fun c1 => ?_)
    · replace hf := (if_pos (show l5 = 0 from c1)).symm.trans hf
      exact (pX15_raise_b143 hd hk13 hf).to ⟨rfl, rfl, rfl, trivial⟩
    · replace hf := (if_neg (show ¬ (l5 = 0) from c1)).symm.trans hf
      refine w_iload dX15_raise_48 rfl ?_
      refine w_aload_n dX15_raise_50 rfl rfl ?_
      obtain ⟨x2, b3, hf⟩ := Option.bind_eq_some_iff.mp hf
      refine GX15_87 b3 dX15_raise_51 rfl ?_
      refine w_icmp_ge 143 dX15_raise_54 (by decide) (fun c4 => ?_) (fun c4 => ?_)
      · replace hf := (if_pos (show x2 ≤ l4 from c4)).symm.trans hf
        exact (pX15_raise_b143 hd hk13 hf).to ⟨rfl, rfl, rfl, trivial⟩
      · replace hf := (if_neg (show ¬ (x2 ≤ l4) from c4)).symm.trans hf
        refine w_aload_n dX15_raise_57 rfl rfl ?_
        obtain ⟨a5, b6, hf⟩ := Option.bind_eq_some_iff.mp hf
        refine GX15_43 b6 dX15_raise_58 rfl ?_
        refine w_iload_n dX15_raise_61 rfl rfl ?_
        obtain ⟨x7, b8, hf⟩ := Option.bind_eq_some_iff.mp hf
        refine x_rI b8 dX15_raise_62 ?_
        refine w_aload_n dX15_raise_63 rfl rfl ?_
        obtain ⟨a9, b10, hf⟩ := Option.bind_eq_some_iff.mp hf
        refine GX15_92 b10 dX15_raise_64 rfl ?_
        refine w_iload dX15_raise_67 rfl ?_
        obtain ⟨x11, b12, hf⟩ := Option.bind_eq_some_iff.mp hf
        refine x_rB b12 dX15_raise_69 ?_
        refine w_iadd dX15_raise_70 ?_
        refine w_istore dX15_raise_71 (by decide) (ls' := [some (.ref l0), some (.ref l1), some (.int l2), some (.int l3), some (.int l4), some (.int l5), some (.int (x7 + x11))]) rfl ?_
        refine w_aload_n dX15_raise_73 rfl rfl ?_
        obtain ⟨a13, b14, hf⟩ := Option.bind_eq_some_iff.mp hf
        refine GX15_37 b14 dX15_raise_74 rfl ?_
        refine w_iload dX15_raise_77 rfl ?_
        obtain ⟨x15, b16, hf⟩ := Option.bind_eq_some_iff.mp hf
        refine x_rI b16 dX15_raise_79 ?_
        refine w_aload_n dX15_raise_80 rfl rfl ?_
        obtain ⟨a17, b18, hf⟩ := Option.bind_eq_some_iff.mp hf
        refine GX15_92 b18 dX15_raise_81 rfl ?_
        refine w_iload dX15_raise_84 rfl ?_
        obtain ⟨x19, b20, hf⟩ := Option.bind_eq_some_iff.mp hf
        refine x_rB b20 dX15_raise_86 ?_
        refine w_iconst dX15_raise_87 (v := 1) (by decide) ?_
        refine w_iadd dX15_raise_88 ?_
        refine w_icmp_ne 96 dX15_raise_89 (by decide) (fun c21 => ?_) (fun c21 => ?_)
        · replace hf := (if_pos (show ¬ x15 = (x19 + (1 : Int32)) from c21)).symm.trans hf
          refine w_iconst dX15_raise_96 (v := 0) (by decide) ?_
          exact (pX15_raise_b97 hd ih hf).to ⟨rfl, rfl, rfl, rfl, rfl, rfl, trivial⟩
        · replace hf := (if_neg (show ¬ (¬ x15 = (x19 + (1 : Int32))) from (fun z => z c21))).symm.trans hf
          refine w_iconst dX15_raise_92 (v := 1) (by decide) ?_
          refine w_goto 97 dX15_raise_93 (by decide) ?_
          exact (pX15_raise_b97 hd ih hf).to ⟨rfl, rfl, rfl, rfl, rfl, rfl, trivial⟩
def fX15_raise_b41 (N : Nat) (k13 : Nat → Nat → Int32 → eH → Option (Unit × eH)) (l0 : Nat) (l1 : Nat) (l2 : Int32) (l3 : Int32) (l4 : Int32) (s0 : Int32) (h : eH) : Option (Unit × eH) :=
  fX15_raise_b43 N k13 N l0 l1 l2 l3 l4 s0 h
theorem pX15_raise_b41 {w : eW} {d : Nat} (hd : 5 ≤ d + 1) {N : Nat} {k13 : Nat → Nat → Int32 → eH → Option (Unit × eH)} (hk13 : ∀ l0 l1 l2 h q, k13 l0 l1 l2 h = some q → wp w (d + 1) YX15_raise 13 [some (.ref l0), some (.ref l1), some (.int l2), none, none, none, none] [] h (e_is (e_rn c_V q))) {l0 : Nat} {l1 : Nat} {l2 : Int32} {l3 : Int32} {l4 : Int32} {s0 : Int32} {h : eH} {q} (hf : fX15_raise_b41 N k13 l0 l1 l2 l3 l4 s0 h = some q) : wp w (d + 1) YX15_raise 41 [some (.ref l0), some (.ref l1), some (.int l2), some (.int l3), some (.int l4), none, none] [.int s0] h (e_is (e_rn c_V q)) := by
  unfold fX15_raise_b41 at hf
  refine w_istore dX15_raise_41 (by decide) (ls' := [some (.ref l0), some (.ref l1), some (.int l2), some (.int l3), some (.int l4), some (.int s0), none]) rfl ?_
  exact (pX15_raise_b43 hd hk13 N _ _ _ _ _ _ _ _ hf).to ⟨rfl, rfl, rfl, rfl, rfl, rfl, trivial⟩
def fX15_raise_b13 (N : Nat) : Nat → Nat → Nat → Int32 → eH → Option (Unit × eH)
  | 0, _, _, _, _ => none
  | n + 1, l0, l1, l2, h =>
    (g_I 16 h l1 2).bind fun x1 =>
    if x1 ≤ l2 then
      some ((), h)
    else
      (g_A 14 h l0 0).bind fun a4 =>
      (r_I 100 h a4 (0 : Int32)).bind fun x6 =>
      if x6 = (-1 : Int32) then
        fX15_raise_b41 N (fX15_raise_b13 N n) l0 l1 l2 (0 : Int32) l2 (0 : Int32) h
      else
        fX15_raise_b41 N (fX15_raise_b13 N n) l0 l1 l2 (0 : Int32) l2 (1 : Int32) h
theorem pX15_raise_b13 {w : eW} {d : Nat} (hd : 5 ≤ d + 1) {N : Nat} : ∀ (n : Nat) l0 l1 l2 h q, fX15_raise_b13 N n l0 l1 l2 h = some q → wp w (d + 1) YX15_raise 13 [some (.ref l0), some (.ref l1), some (.int l2), none, none, none, none] [] h (e_is (e_rn c_V q)) := by
  intro n
  induction n with
  | zero => intro l0 l1 l2 h q hf; simp [fX15_raise_b13] at hf
  | succ n ih =>
    intro l0 l1 l2 h q hf
    rw [fX15_raise_b13] at hf
    refine w_iload_n dX15_raise_13 rfl rfl ?_
    refine w_aload_n dX15_raise_14 rfl rfl ?_
    obtain ⟨x1, b2, hf⟩ := Option.bind_eq_some_iff.mp hf
    refine GX15_87 b2 dX15_raise_15 rfl ?_
    refine w_icmp_ge 149 dX15_raise_18 (by decide) (fun c3 => ?_) (fun c3 => ?_)
    · replace hf := (if_pos (show x1 ≤ l2 from c3)).symm.trans hf
      cases hf
      exact w_vret dX15_raise_149 rfl rfl
    · replace hf := (if_neg (show ¬ (x1 ≤ l2) from c3)).symm.trans hf
      refine w_iconst dX15_raise_21 (v := 0) (by decide) ?_
      refine w_istore_n dX15_raise_22 rfl (by decide) (ls' := [some (.ref l0), some (.ref l1), some (.int l2), some (.int (0 : Int32)), none, none, none]) rfl ?_
      refine w_iload_n dX15_raise_23 rfl rfl ?_
      refine w_istore dX15_raise_24 (by decide) (ls' := [some (.ref l0), some (.ref l1), some (.int l2), some (.int (0 : Int32)), some (.int l2), none, none]) rfl ?_
      refine w_aload_n dX15_raise_26 rfl rfl ?_
      obtain ⟨a4, b5, hf⟩ := Option.bind_eq_some_iff.mp hf
      refine GX15_9 b5 dX15_raise_27 rfl ?_
      refine w_iconst dX15_raise_30 (v := 0) (by decide) ?_
      obtain ⟨x6, b7, hf⟩ := Option.bind_eq_some_iff.mp hf
      refine x_rI b7 dX15_raise_31 ?_
      refine w_iconst dX15_raise_32 (v := -1) (by decide) ?_
      refine w_icmp_eq 40 dX15_raise_33 (by decide) (fun c8 => ?_) (fun c8 => ?_)
      · replace hf := (if_pos (show x6 = (-1 : Int32) from c8)).symm.trans hf
        refine w_iconst dX15_raise_40 (v := 0) (by decide) ?_
        exact (pX15_raise_b41 hd ih hf).to ⟨rfl, rfl, rfl, rfl, rfl, trivial⟩
      · replace hf := (if_neg (show ¬ (x6 = (-1 : Int32)) from c8)).symm.trans hf
        refine w_iconst dX15_raise_36 (v := 1) (by decide) ?_
        refine w_goto 41 dX15_raise_37 (by decide) ?_
        exact (pX15_raise_b41 hd ih hf).to ⟨rfl, rfl, rfl, rfl, rfl, trivial⟩
def fX15_raise_b11 (N : Nat) (l0 : Nat) (l1 : Nat) (h : eH) : Option (Unit × eH) :=
  fX15_raise_b13 N N l0 l1 (0 : Int32) h
theorem pX15_raise_b11 {w : eW} {d : Nat} (hd : 5 ≤ d + 1) {N : Nat} {l0 : Nat} {l1 : Nat} {h : eH} {q} (hf : fX15_raise_b11 N l0 l1 h = some q) : wp w (d + 1) YX15_raise 11 [some (.ref l0), some (.ref l1), none, none, none, none, none] [] h (e_is (e_rn c_V q)) := by
  unfold fX15_raise_b11 at hf
  refine w_iconst dX15_raise_11 (v := 0) (by decide) ?_
  refine w_istore_n dX15_raise_12 rfl (by decide) (ls' := [some (.ref l0), some (.ref l1), some (.int (0 : Int32)), none, none, none, none]) rfl ?_
  exact (pX15_raise_b13 hd N _ _ _ _ _ hf).to ⟨rfl, rfl, rfl, trivial⟩
def fX15_raise (N : Nat) (this : Nat) (p0 : Nat) (h : eH) : Option (Unit × eH) :=
  (g_I 14 h this 15).bind fun x1 =>
  if ¬ x1 = 0 then
    fX15_raise_b11 N this p0 h
  else
    (k_ok 14 h this).bind fun _ =>
    (fX15_pack N this h).bind fun q5 =>
    fX15_raise_b11 N this p0 q5.2
theorem pX15_raise {w : eW} {d : Nat} (hd : 5 ≤ d) {N : Nat} {this : Nat} {p0 : Nat} {h : eH} {q} (hf : fX15_raise N this p0 h = some q) : wm w d YX15_raise [.ref this, .ref p0] h (e_is (e_rn c_V q)) := by
  obtain ⟨d, rfl⟩ : ∃ e, d = e + 1 := ⟨d - 1, by omega⟩
  show wp w (d + 1) YX15_raise 0 [some (.ref this), some (.ref p0), none, none, none, none, none] [] h _
  unfold fX15_raise at hf
  refine w_aload_n dX15_raise_0 rfl rfl ?_
  obtain ⟨x1, b2, hf⟩ := Option.bind_eq_some_iff.mp hf
  refine GX15_73 b2 dX15_raise_1 rfl ?_
  refine w_if_ne 11 dX15_raise_4 (by decide) (fun c3 => ?_) (fun c3 => ?_)
  · replace hf := (if_pos (show ¬ x1 = 0 from c3)).symm.trans hf
    exact (pX15_raise_b11 hd hf).to ⟨rfl, rfl, trivial⟩
  · replace hf := (if_neg (show ¬ (¬ x1 = 0) from (fun z => z c3))).symm.trans hf
    refine w_aload_n dX15_raise_7 rfl rfl ?_
    obtain ⟨_, b4, hf⟩ := Option.bind_eq_some_iff.mp hf
    refine x_cnV hf (e_stV (Yc := YX15_pack) (ci := 14) (av := []) (st := []) dX15_raise_8 q3121 mX15_pack rfl (k_ok_some b4).1 (k_ok_some b4).2) mX15_pack.2.2.1 mX15_pack.2.2.2.2.1 (Nat.le_of_ble_eq_true rfl) (Nat.le_of_ble_eq_true rfl) (fun q hq => pX15_pack (by omega) hq) (fun q5 hf => ?_)
    exact (pX15_raise_b11 hd hf).to ⟨rfl, rfl, trivial⟩
abbrev cX16_hasHyphen : ByteArray := prog_32_method_9_code
def yX16_hasHyphen : MethodName := ⟨RX16, "hasHyphen", "(II)Z"⟩
def YX16_hasHyphen : eY := (yX16_hasHyphen, cX16_hasHyphen, 3, (Option.some FieldType.boolean), [])
theorem mX16_hasHyphen : e_mv YX16_hasHyphen RX16 2 := ⟨q3143, q3144, q3145, by decide, by decide +kernel, (e_sig (by decide +kernel))⟩
theorem dX16_hasHyphen_0 : decode cX16_hasHyphen 0 = .ok (.aload_n 0, 1) := dc_42 (by decide +kernel)
theorem dX16_hasHyphen_1 : decode cX16_hasHyphen 1 = .ok (.getfield 21, 3) := dc_180 (a := 0) (b := 21) (n := 21) (by decide +kernel)
theorem dX16_hasHyphen_4 : decode cX16_hasHyphen 4 = .ok (.iload_n 1, 1) := dc_27 (by decide +kernel)
theorem dX16_hasHyphen_5 : decode cX16_hasHyphen 5 = .ok (.laload, 1) := dc_47 (by decide +kernel)
theorem dX16_hasHyphen_6 : decode cX16_hasHyphen 6 = .ok (.iload_n 2, 1) := dc_28 (by decide +kernel)
theorem dX16_hasHyphen_7 : decode cX16_hasHyphen 7 = .ok (.lshr, 1) := dc_123 (by decide +kernel)
theorem dX16_hasHyphen_8 : decode cX16_hasHyphen 8 = .ok (.lconst 1, 1) := dc_10 (by decide +kernel)
theorem dX16_hasHyphen_9 : decode cX16_hasHyphen 9 = .ok (.land, 1) := dc_127 (by decide +kernel)
theorem dX16_hasHyphen_10 : decode cX16_hasHyphen 10 = .ok (.lconst 1, 1) := dc_10 (by decide +kernel)
theorem dX16_hasHyphen_11 : decode cX16_hasHyphen 11 = .ok (.lcmp, 1) := dc_148 (by decide +kernel)
theorem dX16_hasHyphen_12 : decode cX16_hasHyphen 12 = .ok (.ifCond .ne 7, 3) := dc_154 (a := 0) (b := 7) (v := 7) (by decide +kernel)
theorem dX16_hasHyphen_15 : decode cX16_hasHyphen 15 = .ok (.iconst 1, 1) := dc_4 (by decide +kernel)
theorem dX16_hasHyphen_16 : decode cX16_hasHyphen 16 = .ok (.goto 4, 3) := dc_167 (a := 0) (b := 4) (v := 4) (by decide +kernel)
theorem dX16_hasHyphen_19 : decode cX16_hasHyphen 19 = .ok (.iconst 0, 1) := dc_3 (by decide +kernel)
theorem dX16_hasHyphen_20 : decode cX16_hasHyphen 20 = .ok (.ireturn, 1) := dc_172 (by decide +kernel)
def fX16_hasHyphen_b20 (s0 : Int32) (h : eH) : Option (Int32 × eH) :=
  z_r s0 (s0, h)
theorem pX16_hasHyphen_b20 {w : eW} {d : Nat} (hd : 0 ≤ d) {s0 : Int32} {h : eH} {q} (hf : fX16_hasHyphen_b20 s0 h = some q) : wp w d YX16_hasHyphen 20 [none, none, none] [.int s0] h (e_is (e_rn c_I q)) := by
  unfold fX16_hasHyphen_b20 at hf
  obtain ⟨b1, rfl⟩ := z_r_some hf
  exact w_iret dX16_hasHyphen_20 rfl b1 rfl
def fX16_hasHyphen (this : Nat) (p0 : Int32) (p1 : Int32) (h : eH) : Option (Int32 × eH) :=
  (g_A 15 h this 3).bind fun a1 =>
  (r_J h a1 p0).bind fun x3 =>
  if ¬ (lg_cmp ((x3 >>> ((p1).toInt64 &&& 63)) &&& (1 : Int64)) (1 : Int64)) = 0 then
    fX16_hasHyphen_b20 (0 : Int32) h
  else
    fX16_hasHyphen_b20 (1 : Int32) h
theorem pX16_hasHyphen {w : eW} {d : Nat} (hd : 0 ≤ d) {this : Nat} {p0 : Int32} {p1 : Int32} {h : eH} {q} (hf : fX16_hasHyphen this p0 p1 h = some q) : wm w d YX16_hasHyphen [.ref this, .int p0, .int p1] h (e_is (e_rn c_I q)) := by
  show wp w d YX16_hasHyphen 0 [some (.ref this), some (.int p0), some (.int p1)] [] h _
  unfold fX16_hasHyphen at hf
  refine w_aload_n dX16_hasHyphen_0 rfl rfl ?_
  obtain ⟨a1, b2, hf⟩ := Option.bind_eq_some_iff.mp hf
  refine GX16_21 b2 dX16_hasHyphen_1 rfl ?_
  refine w_iload_n dX16_hasHyphen_4 rfl rfl ?_
  obtain ⟨x3, b4, hf⟩ := Option.bind_eq_some_iff.mp hf
  refine x_rJ b4 dX16_hasHyphen_5 ?_
  refine w_iload_n dX16_hasHyphen_6 rfl rfl ?_
  refine w_lshr dX16_hasHyphen_7 ?_
  refine w_lconst dX16_hasHyphen_8 (v := 1) (by decide) ?_
  refine w_land dX16_hasHyphen_9 ?_
  refine w_lconst dX16_hasHyphen_10 (v := 1) (by decide) ?_
  refine w_lcmp dX16_hasHyphen_11 ?_
  refine w_if_ne 19 dX16_hasHyphen_12 (by decide) (fun c5 => ?_) (fun c5 => ?_)
  · replace hf := (if_pos (show ¬ (lg_cmp ((x3 >>> ((p1).toInt64 &&& 63)) &&& (1 : Int64)) (1 : Int64)) = 0 from c5)).symm.trans hf
    refine w_iconst dX16_hasHyphen_19 (v := 0) (by decide) ?_
    exact (pX16_hasHyphen_b20 hd hf).to trivial
  · replace hf := (if_neg (show ¬ (¬ (lg_cmp ((x3 >>> ((p1).toInt64 &&& 63)) &&& (1 : Int64)) (1 : Int64)) = 0) from (fun z => z c5))).symm.trans hf
    refine w_iconst dX16_hasHyphen_15 (v := 1) (by decide) ?_
    refine w_goto 20 dX16_hasHyphen_16 (by decide) ?_
    exact (pX16_hasHyphen_b20 hd hf).to trivial
abbrev cX14_look : ByteArray := prog_10_method_14_code
def yX14_look : MethodName := ⟨RX14, "look", "([BI)V"⟩
def YX14_look : eY := (yX14_look, cX14_look, 5, none, [])
theorem mX14_look : e_mv YX14_look RX14 2 := ⟨q3114, q3115, q3116, by decide, by decide +kernel, (e_sig (by decide +kernel))⟩
theorem dX14_look_0 : decode cX14_look 0 = .ok (.aload_n 0, 1) := dc_42 (by decide +kernel)
theorem dX14_look_1 : decode cX14_look 1 = .ok (.getfield 28, 3) := dc_180 (a := 0) (b := 28) (n := 28) (by decide +kernel)
theorem dX14_look_4 : decode cX14_look 4 = .ok (.invokevirtual 73, 3) := dc_182 (a := 0) (b := 73) (n := 73) (by decide +kernel)
theorem dX14_look_7 : decode cX14_look 7 = .ok (.aload_n 0, 1) := dc_42 (by decide +kernel)
theorem dX14_look_8 : decode cX14_look 8 = .ok (.getfield 32, 3) := dc_180 (a := 0) (b := 32) (n := 32) (by decide +kernel)
theorem dX14_look_11 : decode cX14_look 11 = .ok (.invokevirtual 73, 3) := dc_182 (a := 0) (b := 73) (n := 73) (by decide +kernel)
theorem dX14_look_14 : decode cX14_look 14 = .ok (.aload_n 0, 1) := dc_42 (by decide +kernel)
theorem dX14_look_15 : decode cX14_look 15 = .ok (.getfield 32, 3) := dc_180 (a := 0) (b := 32) (n := 32) (by decide +kernel)
theorem dX14_look_18 : decode cX14_look 18 = .ok (.iconst 0, 1) := dc_3 (by decide +kernel)
theorem dX14_look_19 : decode cX14_look 19 = .ok (.invokevirtual 69, 3) := dc_182 (a := 0) (b := 69) (n := 69) (by decide +kernel)
theorem dX14_look_22 : decode cX14_look 22 = .ok (.iconst 0, 1) := dc_3 (by decide +kernel)
theorem dX14_look_23 : decode cX14_look 23 = .ok (.istore_n 3, 1) := dc_62 (by decide +kernel)
theorem dX14_look_24 : decode cX14_look 24 = .ok (.iload_n 3, 1) := dc_29 (by decide +kernel)
theorem dX14_look_25 : decode cX14_look 25 = .ok (.iload_n 2, 1) := dc_28 (by decide +kernel)
theorem dX14_look_26 : decode cX14_look 26 = .ok (.if_icmp .ge 35, 3) := dc_162 (a := 0) (b := 35) (v := 35) (by decide +kernel)
theorem dX14_look_29 : decode cX14_look 29 = .ok (.aload_n 0, 1) := dc_42 (by decide +kernel)
theorem dX14_look_30 : decode cX14_look 30 = .ok (.getfield 28, 3) := dc_180 (a := 0) (b := 28) (n := 28) (by decide +kernel)
theorem dX14_look_33 : decode cX14_look 33 = .ok (.aload_n 1, 1) := dc_43 (by decide +kernel)
theorem dX14_look_34 : decode cX14_look 34 = .ok (.iload_n 3, 1) := dc_29 (by decide +kernel)
theorem dX14_look_35 : decode cX14_look 35 = .ok (.baload, 1) := dc_51 (by decide +kernel)
theorem dX14_look_36 : decode cX14_look 36 = .ok (.invokestatic 61, 3) := dc_184 (a := 0) (b := 61) (n := 61) (by decide +kernel)
theorem dX14_look_39 : decode cX14_look 39 = .ok (.invokevirtual 69, 3) := dc_182 (a := 0) (b := 69) (n := 69) (by decide +kernel)
theorem dX14_look_42 : decode cX14_look 42 = .ok (.aload_n 0, 1) := dc_42 (by decide +kernel)
theorem dX14_look_43 : decode cX14_look 43 = .ok (.getfield 32, 3) := dc_180 (a := 0) (b := 32) (n := 32) (by decide +kernel)
theorem dX14_look_46 : decode cX14_look 46 = .ok (.aload_n 1, 1) := dc_43 (by decide +kernel)
theorem dX14_look_47 : decode cX14_look 47 = .ok (.iload_n 3, 1) := dc_29 (by decide +kernel)
theorem dX14_look_48 : decode cX14_look 48 = .ok (.baload, 1) := dc_51 (by decide +kernel)
theorem dX14_look_49 : decode cX14_look 49 = .ok (.invokestatic 61, 3) := dc_184 (a := 0) (b := 61) (n := 61) (by decide +kernel)
theorem dX14_look_52 : decode cX14_look 52 = .ok (.invokevirtual 69, 3) := dc_182 (a := 0) (b := 69) (n := 69) (by decide +kernel)
theorem dX14_look_55 : decode cX14_look 55 = .ok (.iinc 3 1, 3) := dc_132 (a := 3) (b := 1) (v := 1) (by decide +kernel)
theorem dX14_look_58 : decode cX14_look 58 = .ok (.goto (-34), 3) := dc_167 (a := 255) (b := 222) (v := -34) (by decide +kernel)
theorem dX14_look_61 : decode cX14_look 61 = .ok (.aload_n 0, 1) := dc_42 (by decide +kernel)
theorem dX14_look_62 : decode cX14_look 62 = .ok (.getfield 32, 3) := dc_180 (a := 0) (b := 32) (n := 32) (by decide +kernel)
theorem dX14_look_65 : decode cX14_look 65 = .ok (.iconst 0, 1) := dc_3 (by decide +kernel)
theorem dX14_look_66 : decode cX14_look 66 = .ok (.invokevirtual 69, 3) := dc_182 (a := 0) (b := 69) (n := 69) (by decide +kernel)
theorem dX14_look_69 : decode cX14_look 69 = .ok (.aload_n 0, 1) := dc_42 (by decide +kernel)
theorem dX14_look_70 : decode cX14_look 70 = .ok (.getfield 21, 3) := dc_180 (a := 0) (b := 21) (n := 21) (by decide +kernel)
theorem dX14_look_73 : decode cX14_look 73 = .ok (.aload_n 0, 1) := dc_42 (by decide +kernel)
theorem dX14_look_74 : decode cX14_look 74 = .ok (.getfield 28, 3) := dc_180 (a := 0) (b := 28) (n := 28) (by decide +kernel)
theorem dX14_look_77 : decode cX14_look 77 = .ok (.invokevirtual 103, 3) := dc_182 (a := 0) (b := 103) (n := 103) (by decide +kernel)
theorem dX14_look_80 : decode cX14_look 80 = .ok (.istore_n 3, 1) := dc_62 (by decide +kernel)
theorem dX14_look_81 : decode cX14_look 81 = .ok (.iload_n 3, 1) := dc_29 (by decide +kernel)
theorem dX14_look_82 : decode cX14_look 82 = .ok (.iconst (-1), 1) := dc_2 (by decide +kernel)
theorem dX14_look_83 : decode cX14_look 83 = .ok (.if_icmp .ne 15, 3) := dc_160 (a := 0) (b := 15) (v := 15) (by decide +kernel)
theorem dX14_look_86 : decode cX14_look 86 = .ok (.aload_n 0, 1) := dc_42 (by decide +kernel)
theorem dX14_look_87 : decode cX14_look 87 = .ok (.getfield 12, 3) := dc_180 (a := 0) (b := 12) (n := 12) (by decide +kernel)
theorem dX14_look_90 : decode cX14_look 90 = .ok (.aload_n 0, 1) := dc_42 (by decide +kernel)
theorem dX14_look_91 : decode cX14_look 91 = .ok (.getfield 32, 3) := dc_180 (a := 0) (b := 32) (n := 32) (by decide +kernel)
theorem dX14_look_94 : decode cX14_look 94 = .ok (.invokevirtual 134, 3) := dc_182 (a := 0) (b := 134) (n := 134) (by decide +kernel)
theorem dX14_look_97 : decode cX14_look 97 = .ok (.return_, 1) := dc_177 (by decide +kernel)
theorem dX14_look_98 : decode cX14_look 98 = .ok (.iconst 1, 1) := dc_4 (by decide +kernel)
theorem dX14_look_99 : decode cX14_look 99 = .ok (.istore 4, 2) := dc_54 (a := 4) (by decide +kernel)
theorem dX14_look_101 : decode cX14_look 101 = .ok (.iload 4, 2) := dc_21 (a := 4) (by decide +kernel)
theorem dX14_look_103 : decode cX14_look 103 = .ok (.iload_n 2, 1) := dc_28 (by decide +kernel)
theorem dX14_look_104 : decode cX14_look 104 = .ok (.if_icmp .ge 40, 3) := dc_162 (a := 0) (b := 40) (v := 40) (by decide +kernel)
theorem dX14_look_107 : decode cX14_look 107 = .ok (.aload_n 0, 1) := dc_42 (by decide +kernel)
theorem dX14_look_108 : decode cX14_look 108 = .ok (.getfield 32, 3) := dc_180 (a := 0) (b := 32) (n := 32) (by decide +kernel)
theorem dX14_look_111 : decode cX14_look 111 = .ok (.getfield 57, 3) := dc_180 (a := 0) (b := 57) (n := 57) (by decide +kernel)
theorem dX14_look_114 : decode cX14_look 114 = .ok (.iload 4, 2) := dc_21 (a := 4) (by decide +kernel)
theorem dX14_look_116 : decode cX14_look 116 = .ok (.iconst 1, 1) := dc_4 (by decide +kernel)
theorem dX14_look_117 : decode cX14_look 117 = .ok (.iadd, 1) := dc_96 (by decide +kernel)
theorem dX14_look_118 : decode cX14_look 118 = .ok (.aload_n 0, 1) := dc_42 (by decide +kernel)
theorem dX14_look_119 : decode cX14_look 119 = .ok (.getfield 21, 3) := dc_180 (a := 0) (b := 21) (n := 21) (by decide +kernel)
theorem dX14_look_122 : decode cX14_look 122 = .ok (.iload_n 3, 1) := dc_29 (by decide +kernel)
theorem dX14_look_123 : decode cX14_look 123 = .ok (.iload 4, 2) := dc_21 (a := 4) (by decide +kernel)
theorem dX14_look_125 : decode cX14_look 125 = .ok (.invokevirtual 137, 3) := dc_182 (a := 0) (b := 137) (n := 137) (by decide +kernel)
theorem dX14_look_128 : decode cX14_look 128 = .ok (.ifCond .eq 7, 3) := dc_153 (a := 0) (b := 7) (v := 7) (by decide +kernel)
theorem dX14_look_131 : decode cX14_look 131 = .ok (.iconst 1, 1) := dc_4 (by decide +kernel)
theorem dX14_look_132 : decode cX14_look 132 = .ok (.goto 4, 3) := dc_167 (a := 0) (b := 4) (v := 4) (by decide +kernel)
theorem dX14_look_135 : decode cX14_look 135 = .ok (.iconst 0, 1) := dc_3 (by decide +kernel)
theorem dX14_look_136 : decode cX14_look 136 = .ok (.i2b, 1) := dc_145 (by decide +kernel)
theorem dX14_look_137 : decode cX14_look 137 = .ok (.bastore, 1) := dc_84 (by decide +kernel)
theorem dX14_look_138 : decode cX14_look 138 = .ok (.iinc 4 1, 3) := dc_132 (a := 4) (b := 1) (v := 1) (by decide +kernel)
theorem dX14_look_141 : decode cX14_look 141 = .ok (.goto (-40), 3) := dc_167 (a := 255) (b := 216) (v := -40) (by decide +kernel)
theorem dX14_look_144 : decode cX14_look 144 = .ok (.return_, 1) := dc_177 (by decide +kernel)
theorem GX14_32 {w : eW} {d : Nat} {Y : eY} {pc : Nat} {ls : eL} {st : List Value} {h : eH} {Q : eO → eH → Prop} {a : Nat} {x : Nat} (hf : g_A 13 h a 3 = some x) (hd : decode Y.2.1 pc = .ok (.getfield 32, 3)) (hY : Y.1.cls = RX14) (kk : wp w d Y (pc + 3) ls (.ref x :: st) h Q) : wp w d Y pc ls (.ref a :: st) h Q := x_gA (ci := 13) (k := 3) hf hd rfl (by decide) (by rw [hY]; exact q1109) kk
def fX14_look_b136 (N : Nat) (k101 : Nat → Int32 → Int32 → Int32 → eH → Option (Unit × eH)) (l0 : Nat) (l2 : Int32) (l3 : Int32) (l4 : Int32) (s0 : Nat) (s1 : Int32) (s2 : Int32) (h : eH) : Option (Unit × eH) :=
  (q_V 102 h s0 s1 (.int ((s2).toInt8.toInt32).toInt8.toInt32)).bind fun h1 =>
  k101 l0 l2 l3 (l4 + (1 : Int32)) h1
theorem pX14_look_b136 {w : eW} {d : Nat} (hd : 6 ≤ d + 1) {N : Nat} {k101 : Nat → Int32 → Int32 → Int32 → eH → Option (Unit × eH)} (hk101 : ∀ l0 l2 l3 l4 h q, k101 l0 l2 l3 l4 h = some q → wp w (d + 1) YX14_look 101 [some (.ref l0), none, some (.int l2), some (.int l3), some (.int l4)] [] h (e_is (e_rn c_V q))) {l0 : Nat} {l2 : Int32} {l3 : Int32} {l4 : Int32} {s0 : Nat} {s1 : Int32} {s2 : Int32} {h : eH} {q} (hf : fX14_look_b136 N k101 l0 l2 l3 l4 s0 s1 s2 h = some q) : wp w (d + 1) YX14_look 136 [some (.ref l0), none, some (.int l2), some (.int l3), some (.int l4)] [.int s2, .int s1, .ref s0] h (e_is (e_rn c_V q)) := by
  unfold fX14_look_b136 at hf
  refine w_i2b dX14_look_136 ?_
  obtain ⟨h1, b2, hf⟩ := Option.bind_eq_some_iff.mp hf
  refine x_qB b2 dX14_look_137 ?_
  refine w_iinc dX14_look_138 (v := (l4 + (1 : Int32))) rfl rfl (by decide) (ls' := [some (.ref l0), none, some (.int l2), some (.int l3), some (.int (l4 + (1 : Int32)))]) rfl ?_
  refine w_goto 101 dX14_look_141 (by decide) ?_
  exact (hk101 _ _ _ _ _ _ hf).to ⟨rfl, rfl, rfl, rfl, trivial⟩
def fX14_look_b101 (N : Nat) : Nat → Nat → Int32 → Int32 → Int32 → eH → Option (Unit × eH)
  | 0, _, _, _, _, _ => none
  | n + 1, l0, l2, l3, l4, h =>
    if l2 ≤ l4 then
      some ((), h)
    else
      (g_A 13 h l0 3).bind fun a2 =>
      (g_A 16 h a2 1).bind fun a4 =>
      (g_A 13 h l0 1).bind fun a6 =>
      (k_ok 15 h a6).bind fun _ =>
      (fX16_hasHyphen a6 l3 l4 h).bind fun q9 =>
      if q9.1 = 0 then
        fX14_look_b136 N (fX14_look_b101 N n) l0 l2 l3 l4 a4 (l4 + (1 : Int32)) (0 : Int32) q9.2
      else
        fX14_look_b136 N (fX14_look_b101 N n) l0 l2 l3 l4 a4 (l4 + (1 : Int32)) (1 : Int32) q9.2
theorem pX14_look_b101 {w : eW} {d : Nat} (hd : 6 ≤ d + 1) {N : Nat} : ∀ (n : Nat) l0 l2 l3 l4 h q, fX14_look_b101 N n l0 l2 l3 l4 h = some q → wp w (d + 1) YX14_look 101 [some (.ref l0), none, some (.int l2), some (.int l3), some (.int l4)] [] h (e_is (e_rn c_V q)) := by
  intro n
  induction n with
  | zero => intro l0 l2 l3 l4 h q hf; simp [fX14_look_b101] at hf
  | succ n ih =>
    intro l0 l2 l3 l4 h q hf
    rw [fX14_look_b101] at hf
    refine w_iload dX14_look_101 rfl ?_
    refine w_iload_n dX14_look_103 rfl rfl ?_
    refine w_icmp_ge 144 dX14_look_104 (by decide) (fun c1 => ?_) (fun c1 => ?_)
    · replace hf := (if_pos (show l2 ≤ l4 from c1)).symm.trans hf
      cases hf
      exact w_vret dX14_look_144 rfl rfl
    · replace hf := (if_neg (show ¬ (l2 ≤ l4) from c1)).symm.trans hf
      refine w_aload_n dX14_look_107 rfl rfl ?_
      obtain ⟨a2, b3, hf⟩ := Option.bind_eq_some_iff.mp hf
      refine GX14_32 b3 dX14_look_108 rfl ?_
      obtain ⟨a4, b5, hf⟩ := Option.bind_eq_some_iff.mp hf
      refine GX14_57 b5 dX14_look_111 rfl ?_
      refine w_iload dX14_look_114 rfl ?_
      refine w_iconst dX14_look_116 (v := 1) (by decide) ?_
      refine w_iadd dX14_look_117 ?_
      refine w_aload_n dX14_look_118 rfl rfl ?_
      obtain ⟨a6, b7, hf⟩ := Option.bind_eq_some_iff.mp hf
      refine GX14_21 b7 dX14_look_119 rfl ?_
      refine w_iload_n dX14_look_122 rfl rfl ?_
      refine w_iload dX14_look_123 rfl ?_
      obtain ⟨_, b8, hf⟩ := Option.bind_eq_some_iff.mp hf
      refine x_cnI hf (e_stV (Yc := YX16_hasHyphen) (ci := 15) (av := [.int l3, .int l4]) (st := [.int (l4 + (1 : Int32)), .ref a4]) dX14_look_125 q3142 mX16_hasHyphen rfl (k_ok_some b8).1 (k_ok_some b8).2) mX16_hasHyphen.2.2.1 mX16_hasHyphen.2.2.2.2.1 (Nat.le_of_ble_eq_true rfl) (Nat.le_of_ble_eq_true rfl) (fun q hq => pX16_hasHyphen (by omega) hq) (fun q9 hf => ?_)
      refine w_if_eq 135 dX14_look_128 (by decide) (fun c10 => ?_) (fun c10 => ?_)
      · replace hf := (if_pos (show q9.1 = 0 from c10)).symm.trans hf
        refine w_iconst dX14_look_135 (v := 0) (by decide) ?_
        exact (pX14_look_b136 hd ih hf).to ⟨rfl, rfl, rfl, rfl, trivial⟩
      · replace hf := (if_neg (show ¬ (q9.1 = 0) from c10)).symm.trans hf
        refine w_iconst dX14_look_131 (v := 1) (by decide) ?_
        refine w_goto 136 dX14_look_132 (by decide) ?_
        exact (pX14_look_b136 hd ih hf).to ⟨rfl, rfl, rfl, rfl, trivial⟩
def fX14_look_b24 (N : Nat) : Nat → Nat → Nat → Int32 → Int32 → eH → Option (Unit × eH)
  | 0, _, _, _, _, _ => none
  | n + 1, l0, l1, l2, l3, h =>
    if l2 ≤ l3 then
      (g_A 13 h l0 3).bind fun a2 =>
      (k_ok 16 h a2).bind fun _ =>
      (fX17_add a2 (0 : Int32) h).bind fun q5 =>
      (g_A 13 q5.2 l0 1).bind fun a6 =>
      (g_A 13 q5.2 l0 2).bind fun a8 =>
      (k_ok 15 q5.2 a6).bind fun _ =>
      (fX16_find N a6 a8 q5.2).bind fun q11 =>
      if ¬ q11.1 = (-1 : Int32) then
        fX14_look_b101 N N l0 l2 q11.1 (1 : Int32) q11.2
      else
        (g_A 13 q11.2 l0 0).bind fun a13 =>
        (g_A 13 q11.2 l0 3).bind fun a15 =>
        (k_ok 14 q11.2 a13).bind fun _ =>
        (fX15_raise N a13 a15 q11.2).bind fun q18 =>
        some ((), q18.2)
    else
      (g_A 13 h l0 2).bind fun a19 =>
      (r_I 102 h l1 l3).bind fun x21 =>
      (fX14_letter x21 h).bind fun q23 =>
      (k_ok 16 q23.2 a19).bind fun _ =>
      (fX17_add a19 q23.1 q23.2).bind fun q25 =>
      (g_A 13 q25.2 l0 3).bind fun a26 =>
      (r_I 102 q25.2 l1 l3).bind fun x28 =>
      (fX14_letter x28 q25.2).bind fun q30 =>
      (k_ok 16 q30.2 a26).bind fun _ =>
      (fX17_add a26 q30.1 q30.2).bind fun q32 =>
      fX14_look_b24 N n l0 l1 l2 (l3 + (1 : Int32)) q32.2
theorem pX14_look_b24 {w : eW} {d : Nat} (hd : 6 ≤ d + 1) {N : Nat} : ∀ (n : Nat) l0 l1 l2 l3 h q, fX14_look_b24 N n l0 l1 l2 l3 h = some q → wp w (d + 1) YX14_look 24 [some (.ref l0), some (.ref l1), some (.int l2), some (.int l3), none] [] h (e_is (e_rn c_V q)) := by
  intro n
  induction n with
  | zero => intro l0 l1 l2 l3 h q hf; simp [fX14_look_b24] at hf
  | succ n ih =>
    intro l0 l1 l2 l3 h q hf
    rw [fX14_look_b24] at hf
    refine w_iload_n dX14_look_24 rfl rfl ?_
    refine w_iload_n dX14_look_25 rfl rfl ?_
    refine w_icmp_ge 61 dX14_look_26 (by decide) (fun c1 => ?_) (fun c1 => ?_)
    · replace hf := (if_pos (show l2 ≤ l3 from c1)).symm.trans hf
      refine w_aload_n dX14_look_61 rfl rfl ?_
      obtain ⟨a2, b3, hf⟩ := Option.bind_eq_some_iff.mp hf
      refine GX14_32 b3 dX14_look_62 rfl ?_
      refine w_iconst dX14_look_65 (v := 0) (by decide) ?_
      obtain ⟨_, b4, hf⟩ := Option.bind_eq_some_iff.mp hf
      refine x_cnV hf (e_stV (Yc := YX17_add) (ci := 16) (av := [.int (0 : Int32)]) (st := []) dX14_look_66 q2345 mX17_add rfl (k_ok_some b4).1 (k_ok_some b4).2) mX17_add.2.2.1 mX17_add.2.2.2.2.1 (Nat.le_of_ble_eq_true rfl) (Nat.le_of_ble_eq_true rfl) (fun q hq => pX17_add (by omega) hq) (fun q5 hf => ?_)
      refine w_aload_n dX14_look_69 rfl rfl ?_
      obtain ⟨a6, b7, hf⟩ := Option.bind_eq_some_iff.mp hf
      refine GX14_21 b7 dX14_look_70 rfl ?_
      refine w_aload_n dX14_look_73 rfl rfl ?_
      obtain ⟨a8, b9, hf⟩ := Option.bind_eq_some_iff.mp hf
      refine GX14_28 b9 dX14_look_74 rfl ?_
      obtain ⟨_, b10, hf⟩ := Option.bind_eq_some_iff.mp hf
      refine x_cnI hf (e_stV (Yc := YX16_find) (ci := 15) (av := [.ref a8]) (st := []) dX14_look_77 q2353 mX16_find rfl (k_ok_some b10).1 (k_ok_some b10).2) mX16_find.2.2.1 mX16_find.2.2.2.2.1 (Nat.le_of_ble_eq_true rfl) (Nat.le_of_ble_eq_true rfl) (fun q hq => pX16_find (by omega) hq) (fun q11 hf => ?_)
      refine w_istore_n dX14_look_80 rfl (by decide) (ls' := [some (.ref l0), some (.ref l1), some (.int l2), some (.int q11.1), none]) rfl ?_
      refine w_iload_n dX14_look_81 rfl rfl ?_
      refine w_iconst dX14_look_82 (v := -1) (by decide) ?_
      refine w_icmp_ne 98 dX14_look_83 (by decide) (fun c12 => ?_) (fun c12 => ?_)
      · replace hf := (if_pos (show ¬ q11.1 = (-1 : Int32) from c12)).symm.trans hf
        refine w_iconst dX14_look_98 (v := 1) (by decide) ?_
        refine w_istore dX14_look_99 (by decide) (ls' := [some (.ref l0), some (.ref l1), some (.int l2), some (.int q11.1), some (.int (1 : Int32))]) rfl ?_
        exact (pX14_look_b101 hd N _ _ _ _ _ _ hf).to ⟨rfl, rfl, rfl, rfl, trivial⟩
      · replace hf := (if_neg (show ¬ (¬ q11.1 = (-1 : Int32)) from (fun z => z c12))).symm.trans hf
        refine w_aload_n dX14_look_86 rfl rfl ?_
        obtain ⟨a13, b14, hf⟩ := Option.bind_eq_some_iff.mp hf
        refine GX14_12 b14 dX14_look_87 rfl ?_
        refine w_aload_n dX14_look_90 rfl rfl ?_
        obtain ⟨a15, b16, hf⟩ := Option.bind_eq_some_iff.mp hf
        refine GX14_32 b16 dX14_look_91 rfl ?_
        obtain ⟨_, b17, hf⟩ := Option.bind_eq_some_iff.mp hf
        refine x_cnV hf (e_stV (Yc := YX15_raise) (ci := 14) (av := [.ref a15]) (st := []) dX14_look_94 q3117 mX15_raise rfl (k_ok_some b17).1 (k_ok_some b17).2) mX15_raise.2.2.1 mX15_raise.2.2.2.2.1 (Nat.le_of_ble_eq_true rfl) (Nat.le_of_ble_eq_true rfl) (fun q hq => pX15_raise (by omega) hq) (fun q18 hf => ?_)
        cases hf
        exact w_vret dX14_look_97 rfl rfl
    · replace hf := (if_neg (show ¬ (l2 ≤ l3) from c1)).symm.trans hf
      refine w_aload_n dX14_look_29 rfl rfl ?_
      obtain ⟨a19, b20, hf⟩ := Option.bind_eq_some_iff.mp hf
      refine GX14_28 b20 dX14_look_30 rfl ?_
      refine w_aload_n dX14_look_33 rfl rfl ?_
      refine w_iload_n dX14_look_34 rfl rfl ?_
      obtain ⟨x21, b22, hf⟩ := Option.bind_eq_some_iff.mp hf
      refine x_rB b22 dX14_look_35 ?_
      refine x_cnI hf (e_stS (Yc := YX14_letter) (av := [.int x21]) (st := [.ref a19]) dX14_look_36 q2336 mX14_letter) mX14_letter.2.2.1 mX14_letter.2.2.2.2.1 (Nat.le_of_ble_eq_true rfl) (Nat.le_of_ble_eq_true rfl) (fun q hq => pX14_letter (by omega) hq) (fun q23 hf => ?_)
      obtain ⟨_, b24, hf⟩ := Option.bind_eq_some_iff.mp hf
      refine x_cnV hf (e_stV (Yc := YX17_add) (ci := 16) (av := [.int q23.1]) (st := []) dX14_look_39 q2345 mX17_add rfl (k_ok_some b24).1 (k_ok_some b24).2) mX17_add.2.2.1 mX17_add.2.2.2.2.1 (Nat.le_of_ble_eq_true rfl) (Nat.le_of_ble_eq_true rfl) (fun q hq => pX17_add (by omega) hq) (fun q25 hf => ?_)
      refine w_aload_n dX14_look_42 rfl rfl ?_
      obtain ⟨a26, b27, hf⟩ := Option.bind_eq_some_iff.mp hf
      refine GX14_32 b27 dX14_look_43 rfl ?_
      refine w_aload_n dX14_look_46 rfl rfl ?_
      refine w_iload_n dX14_look_47 rfl rfl ?_
      obtain ⟨x28, b29, hf⟩ := Option.bind_eq_some_iff.mp hf
      refine x_rB b29 dX14_look_48 ?_
      refine x_cnI hf (e_stS (Yc := YX14_letter) (av := [.int x28]) (st := [.ref a26]) dX14_look_49 q2336 mX14_letter) mX14_letter.2.2.1 mX14_letter.2.2.2.2.1 (Nat.le_of_ble_eq_true rfl) (Nat.le_of_ble_eq_true rfl) (fun q hq => pX14_letter (by omega) hq) (fun q30 hf => ?_)
      obtain ⟨_, b31, hf⟩ := Option.bind_eq_some_iff.mp hf
      refine x_cnV hf (e_stV (Yc := YX17_add) (ci := 16) (av := [.int q30.1]) (st := []) dX14_look_52 q2345 mX17_add rfl (k_ok_some b31).1 (k_ok_some b31).2) mX17_add.2.2.1 mX17_add.2.2.2.2.1 (Nat.le_of_ble_eq_true rfl) (Nat.le_of_ble_eq_true rfl) (fun q hq => pX17_add (by omega) hq) (fun q32 hf => ?_)
      refine w_iinc dX14_look_55 (v := (l3 + (1 : Int32))) rfl rfl (by decide) (ls' := [some (.ref l0), some (.ref l1), some (.int l2), some (.int (l3 + (1 : Int32))), none]) rfl ?_
      refine w_goto 24 dX14_look_58 (by decide) ?_
      exact (ih _ _ _ _ _ _ hf).to ⟨rfl, rfl, rfl, rfl, trivial⟩
def fX14_look (N : Nat) (this : Nat) (p0 : Nat) (p1 : Int32) (h : eH) : Option (Unit × eH) :=
  (g_A 13 h this 2).bind fun a1 =>
  (k_ok 16 h a1).bind fun _ =>
  (fX17_clear a1 h).bind fun q4 =>
  (g_A 13 q4.2 this 3).bind fun a5 =>
  (k_ok 16 q4.2 a5).bind fun _ =>
  (fX17_clear a5 q4.2).bind fun q8 =>
  (g_A 13 q8.2 this 3).bind fun a9 =>
  (k_ok 16 q8.2 a9).bind fun _ =>
  (fX17_add a9 (0 : Int32) q8.2).bind fun q12 =>
  fX14_look_b24 N N this p0 p1 (0 : Int32) q12.2
theorem pX14_look {w : eW} {d : Nat} (hd : 6 ≤ d) {N : Nat} {this : Nat} {p0 : Nat} {p1 : Int32} {h : eH} {q} (hf : fX14_look N this p0 p1 h = some q) : wm w d YX14_look [.ref this, .ref p0, .int p1] h (e_is (e_rn c_V q)) := by
  obtain ⟨d, rfl⟩ : ∃ e, d = e + 1 := ⟨d - 1, by omega⟩
  show wp w (d + 1) YX14_look 0 [some (.ref this), some (.ref p0), some (.int p1), none, none] [] h _
  unfold fX14_look at hf
  refine w_aload_n dX14_look_0 rfl rfl ?_
  obtain ⟨a1, b2, hf⟩ := Option.bind_eq_some_iff.mp hf
  refine GX14_28 b2 dX14_look_1 rfl ?_
  obtain ⟨_, b3, hf⟩ := Option.bind_eq_some_iff.mp hf
  refine x_cnV hf (e_stV (Yc := YX17_clear) (ci := 16) (av := []) (st := []) dX14_look_4 q2328 mX17_clear rfl (k_ok_some b3).1 (k_ok_some b3).2) mX17_clear.2.2.1 mX17_clear.2.2.2.2.1 (Nat.le_of_ble_eq_true rfl) (Nat.le_of_ble_eq_true rfl) (fun q hq => pX17_clear (by omega) hq) (fun q4 hf => ?_)
  refine w_aload_n dX14_look_7 rfl rfl ?_
  obtain ⟨a5, b6, hf⟩ := Option.bind_eq_some_iff.mp hf
  refine GX14_32 b6 dX14_look_8 rfl ?_
  obtain ⟨_, b7, hf⟩ := Option.bind_eq_some_iff.mp hf
  refine x_cnV hf (e_stV (Yc := YX17_clear) (ci := 16) (av := []) (st := []) dX14_look_11 q2328 mX17_clear rfl (k_ok_some b7).1 (k_ok_some b7).2) mX17_clear.2.2.1 mX17_clear.2.2.2.2.1 (Nat.le_of_ble_eq_true rfl) (Nat.le_of_ble_eq_true rfl) (fun q hq => pX17_clear (by omega) hq) (fun q8 hf => ?_)
  refine w_aload_n dX14_look_14 rfl rfl ?_
  obtain ⟨a9, b10, hf⟩ := Option.bind_eq_some_iff.mp hf
  refine GX14_32 b10 dX14_look_15 rfl ?_
  refine w_iconst dX14_look_18 (v := 0) (by decide) ?_
  obtain ⟨_, b11, hf⟩ := Option.bind_eq_some_iff.mp hf
  refine x_cnV hf (e_stV (Yc := YX17_add) (ci := 16) (av := [.int (0 : Int32)]) (st := []) dX14_look_19 q2345 mX17_add rfl (k_ok_some b11).1 (k_ok_some b11).2) mX17_add.2.2.1 mX17_add.2.2.2.2.1 (Nat.le_of_ble_eq_true rfl) (Nat.le_of_ble_eq_true rfl) (fun q hq => pX17_add (by omega) hq) (fun q12 hf => ?_)
  refine w_iconst dX14_look_22 (v := 0) (by decide) ?_
  refine w_istore_n dX14_look_23 rfl (by decide) (ls' := [some (.ref this), some (.ref p0), some (.int p1), some (.int (0 : Int32)), none]) rfl ?_
  exact (pX14_look_b24 hd N _ _ _ _ _ _ hf).to ⟨rfl, rfl, rfl, rfl, trivial⟩
abbrev cX14_isBroken : ByteArray := prog_10_method_15_code
def yX14_isBroken : MethodName := ⟨RX14, "isBroken", "(I)Z"⟩
def YX14_isBroken : eY := (yX14_isBroken, cX14_isBroken, 2, (Option.some FieldType.boolean), [])
theorem mX14_isBroken : e_mv YX14_isBroken RX14 1 := ⟨q3147, q3148, q3149, by decide, by decide +kernel, (e_sig (by decide +kernel))⟩
theorem dX14_isBroken_0 : decode cX14_isBroken 0 = .ok (.aload_n 0, 1) := dc_42 (by decide +kernel)
theorem dX14_isBroken_1 : decode cX14_isBroken 1 = .ok (.getfield 32, 3) := dc_180 (a := 0) (b := 32) (n := 32) (by decide +kernel)
theorem dX14_isBroken_4 : decode cX14_isBroken 4 = .ok (.getfield 57, 3) := dc_180 (a := 0) (b := 57) (n := 57) (by decide +kernel)
theorem dX14_isBroken_7 : decode cX14_isBroken 7 = .ok (.iload_n 1, 1) := dc_27 (by decide +kernel)
theorem dX14_isBroken_8 : decode cX14_isBroken 8 = .ok (.iconst 1, 1) := dc_4 (by decide +kernel)
theorem dX14_isBroken_9 : decode cX14_isBroken 9 = .ok (.iadd, 1) := dc_96 (by decide +kernel)
theorem dX14_isBroken_10 : decode cX14_isBroken 10 = .ok (.baload, 1) := dc_51 (by decide +kernel)
theorem dX14_isBroken_11 : decode cX14_isBroken 11 = .ok (.iconst 2, 1) := dc_5 (by decide +kernel)
theorem dX14_isBroken_12 : decode cX14_isBroken 12 = .ok (.irem, 1) := dc_112 (by decide +kernel)
theorem dX14_isBroken_13 : decode cX14_isBroken 13 = .ok (.iconst 1, 1) := dc_4 (by decide +kernel)
theorem dX14_isBroken_14 : decode cX14_isBroken 14 = .ok (.if_icmp .ne 25, 3) := dc_160 (a := 0) (b := 25) (v := 25) (by decide +kernel)
theorem dX14_isBroken_17 : decode cX14_isBroken 17 = .ok (.iload_n 1, 1) := dc_27 (by decide +kernel)
theorem dX14_isBroken_18 : decode cX14_isBroken 18 = .ok (.iconst 2, 1) := dc_5 (by decide +kernel)
theorem dX14_isBroken_19 : decode cX14_isBroken 19 = .ok (.if_icmp .lt 20, 3) := dc_161 (a := 0) (b := 20) (v := 20) (by decide +kernel)
theorem dX14_isBroken_22 : decode cX14_isBroken 22 = .ok (.aload_n 0, 1) := dc_42 (by decide +kernel)
theorem dX14_isBroken_23 : decode cX14_isBroken 23 = .ok (.getfield 28, 3) := dc_180 (a := 0) (b := 28) (n := 28) (by decide +kernel)
theorem dX14_isBroken_26 : decode cX14_isBroken 26 = .ok (.getfield 60, 3) := dc_180 (a := 0) (b := 60) (n := 60) (by decide +kernel)
theorem dX14_isBroken_29 : decode cX14_isBroken 29 = .ok (.iload_n 1, 1) := dc_27 (by decide +kernel)
theorem dX14_isBroken_30 : decode cX14_isBroken 30 = .ok (.isub, 1) := dc_100 (by decide +kernel)
theorem dX14_isBroken_31 : decode cX14_isBroken 31 = .ok (.iconst 3, 1) := dc_6 (by decide +kernel)
theorem dX14_isBroken_32 : decode cX14_isBroken 32 = .ok (.if_icmp .lt 7, 3) := dc_161 (a := 0) (b := 7) (v := 7) (by decide +kernel)
theorem dX14_isBroken_35 : decode cX14_isBroken 35 = .ok (.iconst 1, 1) := dc_4 (by decide +kernel)
theorem dX14_isBroken_36 : decode cX14_isBroken 36 = .ok (.goto 4, 3) := dc_167 (a := 0) (b := 4) (v := 4) (by decide +kernel)
theorem dX14_isBroken_39 : decode cX14_isBroken 39 = .ok (.iconst 0, 1) := dc_3 (by decide +kernel)
theorem dX14_isBroken_40 : decode cX14_isBroken 40 = .ok (.ireturn, 1) := dc_172 (by decide +kernel)
def fX14_isBroken_b40 (s0 : Int32) (h : eH) : Option (Int32 × eH) :=
  z_r s0 (s0, h)
theorem pX14_isBroken_b40 {w : eW} {d : Nat} (hd : 0 ≤ d) {s0 : Int32} {h : eH} {q} (hf : fX14_isBroken_b40 s0 h = some q) : wp w d YX14_isBroken 40 [none, none] [.int s0] h (e_is (e_rn c_I q)) := by
  unfold fX14_isBroken_b40 at hf
  obtain ⟨b1, rfl⟩ := z_r_some hf
  exact w_iret dX14_isBroken_40 rfl b1 rfl
def fX14_isBroken_b39  (h : eH) : Option (Int32 × eH) :=
  fX14_isBroken_b40 (0 : Int32) h
theorem pX14_isBroken_b39 {w : eW} {d : Nat} (hd : 0 ≤ d)  {h : eH} {q} (hf : fX14_isBroken_b39  h = some q) : wp w d YX14_isBroken 39 [none, none] [] h (e_is (e_rn c_I q)) := by
  unfold fX14_isBroken_b39 at hf
  refine w_iconst dX14_isBroken_39 (v := 0) (by decide) ?_
  exact (pX14_isBroken_b40 hd hf).to trivial
def fX14_isBroken (this : Nat) (p0 : Int32) (h : eH) : Option (Int32 × eH) :=
  (g_A 13 h this 3).bind fun a1 =>
  (g_A 16 h a1 1).bind fun a3 =>
  (r_I 102 h a3 (p0 + (1 : Int32))).bind fun x5 =>
  if ¬ (x5 - x5 / (2 : Int32) * (2 : Int32)) = (1 : Int32) then
    fX14_isBroken_b39 h
  else
    if p0 < (2 : Int32) then
      fX14_isBroken_b39 h
    else
      (g_A 13 h this 2).bind fun a9 =>
      (g_I 16 h a9 2).bind fun x11 =>
      if (x11 - p0) < (3 : Int32) then
        fX14_isBroken_b39 h
      else
        fX14_isBroken_b40 (1 : Int32) h
theorem pX14_isBroken {w : eW} {d : Nat} (hd : 0 ≤ d) {this : Nat} {p0 : Int32} {h : eH} {q} (hf : fX14_isBroken this p0 h = some q) : wm w d YX14_isBroken [.ref this, .int p0] h (e_is (e_rn c_I q)) := by
  show wp w d YX14_isBroken 0 [some (.ref this), some (.int p0)] [] h _
  unfold fX14_isBroken at hf
  refine w_aload_n dX14_isBroken_0 rfl rfl ?_
  obtain ⟨a1, b2, hf⟩ := Option.bind_eq_some_iff.mp hf
  refine GX14_32 b2 dX14_isBroken_1 rfl ?_
  obtain ⟨a3, b4, hf⟩ := Option.bind_eq_some_iff.mp hf
  refine GX14_57 b4 dX14_isBroken_4 rfl ?_
  refine w_iload_n dX14_isBroken_7 rfl rfl ?_
  refine w_iconst dX14_isBroken_8 (v := 1) (by decide) ?_
  refine w_iadd dX14_isBroken_9 ?_
  obtain ⟨x5, b6, hf⟩ := Option.bind_eq_some_iff.mp hf
  refine x_rB b6 dX14_isBroken_10 ?_
  refine w_iconst dX14_isBroken_11 (v := 2) (by decide) ?_
  refine w_irem dX14_isBroken_12 (by decide) ?_
  refine w_iconst dX14_isBroken_13 (v := 1) (by decide) ?_
  refine w_icmp_ne 39 dX14_isBroken_14 (by decide) (fun c7 => ?_) (fun c7 => ?_)
  · replace hf := (if_pos (show ¬ (x5 - x5 / (2 : Int32) * (2 : Int32)) = (1 : Int32) from c7)).symm.trans hf
    exact (pX14_isBroken_b39 hd hf).to trivial
  · replace hf := (if_neg (show ¬ (¬ (x5 - x5 / (2 : Int32) * (2 : Int32)) = (1 : Int32)) from (fun z => z c7))).symm.trans hf
    refine w_iload_n dX14_isBroken_17 rfl rfl ?_
    refine w_iconst dX14_isBroken_18 (v := 2) (by decide) ?_
    refine w_icmp_lt 39 dX14_isBroken_19 (by decide) (fun c8 => ?_) (fun c8 => ?_)
    · replace hf := (if_pos (show p0 < (2 : Int32) from c8)).symm.trans hf
      exact (pX14_isBroken_b39 hd hf).to trivial
    · replace hf := (if_neg (show ¬ (p0 < (2 : Int32)) from c8)).symm.trans hf
      refine w_aload_n dX14_isBroken_22 rfl rfl ?_
      obtain ⟨a9, b10, hf⟩ := Option.bind_eq_some_iff.mp hf
      refine GX14_28 b10 dX14_isBroken_23 rfl ?_
      obtain ⟨x11, b12, hf⟩ := Option.bind_eq_some_iff.mp hf
      refine GX14_60 b12 dX14_isBroken_26 rfl ?_
      refine w_iload_n dX14_isBroken_29 rfl rfl ?_
      refine w_isub dX14_isBroken_30 ?_
      refine w_iconst dX14_isBroken_31 (v := 3) (by decide) ?_
      refine w_icmp_lt 39 dX14_isBroken_32 (by decide) (fun c13 => ?_) (fun c13 => ?_)
      · replace hf := (if_pos (show (x11 - p0) < (3 : Int32) from c13)).symm.trans hf
        exact (pX14_isBroken_b39 hd hf).to trivial
      · replace hf := (if_neg (show ¬ ((x11 - p0) < (3 : Int32)) from c13)).symm.trans hf
        refine w_iconst dX14_isBroken_35 (v := 1) (by decide) ?_
        refine w_goto 40 dX14_isBroken_36 (by decide) ?_
        exact (pX14_isBroken_b40 hd hf).to trivial
abbrev cX34_kind : ByteArray := prog_13_method_3_code
def yX34_kind : MethodName := ⟨RX34, "kind", "(I)I"⟩
def YX34_kind : eY := (yX34_kind, cX34_kind, 2, (Option.some FieldType.int), [])
theorem mX34_kind : e_mv YX34_kind RX34 1 := ⟨q3158, q3159, q3160, by decide, by decide +kernel, (e_sig (by decide +kernel))⟩
theorem dX34_kind_0 : decode cX34_kind 0 = .ok (.aload_n 0, 1) := dc_42 (by decide +kernel)
theorem dX34_kind_1 : decode cX34_kind 1 = .ok (.getfield 9, 3) := dc_180 (a := 0) (b := 9) (n := 9) (by decide +kernel)
theorem dX34_kind_4 : decode cX34_kind 4 = .ok (.bipush 6, 2) := dc_16 (a := 6) (v := 6) (by decide +kernel)
theorem dX34_kind_6 : decode cX34_kind 6 = .ok (.iload_n 1, 1) := dc_27 (by decide +kernel)
theorem dX34_kind_7 : decode cX34_kind 7 = .ok (.imul, 1) := dc_104 (by decide +kernel)
theorem dX34_kind_8 : decode cX34_kind 8 = .ok (.iaload, 1) := dc_46 (by decide +kernel)
theorem dX34_kind_9 : decode cX34_kind 9 = .ok (.ireturn, 1) := dc_172 (by decide +kernel)
def fX34_kind (this : Nat) (p0 : Int32) (h : eH) : Option (Int32 × eH) :=
  (g_A 33 h this 0).bind fun a1 =>
  (r_I 100 h a1 ((6 : Int32) * p0)).bind fun x3 =>
  some (x3, h)
theorem pX34_kind {w : eW} {d : Nat} (hd : 0 ≤ d) {this : Nat} {p0 : Int32} {h : eH} {q} (hf : fX34_kind this p0 h = some q) : wm w d YX34_kind [.ref this, .int p0] h (e_is (e_rn c_I q)) := by
  show wp w d YX34_kind 0 [some (.ref this), some (.int p0)] [] h _
  unfold fX34_kind at hf
  refine w_aload_n dX34_kind_0 rfl rfl ?_
  obtain ⟨a1, b2, hf⟩ := Option.bind_eq_some_iff.mp hf
  refine GX34_9 b2 dX34_kind_1 rfl ?_
  refine w_bipush dX34_kind_4 (v := 6) (by decide) ?_
  refine w_iload_n dX34_kind_6 rfl rfl ?_
  refine w_imul dX34_kind_7 ?_
  obtain ⟨x3, b4, hf⟩ := Option.bind_eq_some_iff.mp hf
  refine x_rI b4 dX34_kind_8 ?_
  cases hf
  exact w_iret dX34_kind_9 rfl rfl rfl
abbrev cX34_of : ByteArray := prog_13_method_4_code
def yX34_of : MethodName := ⟨RX34, "of", "(II)I"⟩
def YX34_of : eY := (yX34_of, cX34_of, 3, (Option.some FieldType.int), [])
theorem mX34_of : e_mv YX34_of RX34 2 := ⟨q3162, q3163, q3164, by decide, by decide +kernel, (e_sig (by decide +kernel))⟩
theorem dX34_of_0 : decode cX34_of 0 = .ok (.aload_n 0, 1) := dc_42 (by decide +kernel)
theorem dX34_of_1 : decode cX34_of 1 = .ok (.getfield 9, 3) := dc_180 (a := 0) (b := 9) (n := 9) (by decide +kernel)
theorem dX34_of_4 : decode cX34_of 4 = .ok (.bipush 6, 2) := dc_16 (a := 6) (v := 6) (by decide +kernel)
theorem dX34_of_6 : decode cX34_of 6 = .ok (.iload_n 1, 1) := dc_27 (by decide +kernel)
theorem dX34_of_7 : decode cX34_of 7 = .ok (.imul, 1) := dc_104 (by decide +kernel)
theorem dX34_of_8 : decode cX34_of 8 = .ok (.iconst 1, 1) := dc_4 (by decide +kernel)
theorem dX34_of_9 : decode cX34_of 9 = .ok (.iadd, 1) := dc_96 (by decide +kernel)
theorem dX34_of_10 : decode cX34_of 10 = .ok (.iload_n 2, 1) := dc_28 (by decide +kernel)
theorem dX34_of_11 : decode cX34_of 11 = .ok (.iadd, 1) := dc_96 (by decide +kernel)
theorem dX34_of_12 : decode cX34_of 12 = .ok (.iaload, 1) := dc_46 (by decide +kernel)
theorem dX34_of_13 : decode cX34_of 13 = .ok (.ireturn, 1) := dc_172 (by decide +kernel)
def fX34_of (this : Nat) (p0 : Int32) (p1 : Int32) (h : eH) : Option (Int32 × eH) :=
  (g_A 33 h this 0).bind fun a1 =>
  (r_I 100 h a1 ((((6 : Int32) * p0) + (1 : Int32)) + p1)).bind fun x3 =>
  some (x3, h)
theorem pX34_of {w : eW} {d : Nat} (hd : 0 ≤ d) {this : Nat} {p0 : Int32} {p1 : Int32} {h : eH} {q} (hf : fX34_of this p0 p1 h = some q) : wm w d YX34_of [.ref this, .int p0, .int p1] h (e_is (e_rn c_I q)) := by
  show wp w d YX34_of 0 [some (.ref this), some (.int p0), some (.int p1)] [] h _
  unfold fX34_of at hf
  refine w_aload_n dX34_of_0 rfl rfl ?_
  obtain ⟨a1, b2, hf⟩ := Option.bind_eq_some_iff.mp hf
  refine GX34_9 b2 dX34_of_1 rfl ?_
  refine w_bipush dX34_of_4 (v := 6) (by decide) ?_
  refine w_iload_n dX34_of_6 rfl rfl ?_
  refine w_imul dX34_of_7 ?_
  refine w_iconst dX34_of_8 (v := 1) (by decide) ?_
  refine w_iadd dX34_of_9 ?_
  refine w_iload_n dX34_of_10 rfl rfl ?_
  refine w_iadd dX34_of_11 ?_
  obtain ⟨x3, b4, hf⟩ := Option.bind_eq_some_iff.mp hf
  refine x_rI b4 dX34_of_12 ?_
  cases hf
  exact w_iret dX34_of_13 rfl rfl rfl
abbrev cX3_areSame : ByteArray := prog_26_method_25_code
def yX3_areSame : MethodName := ⟨RX3, "areSame", "(LTypeHouse$Lists;ILTypeHouse$Lists;I)Z"⟩
def YX3_areSame : eY := (yX3_areSame, cX3_areSame, 4, (Option.some FieldType.boolean), [])
theorem mX3_areSame : e_ms YX3_areSame 4 := ⟨q3155, q428, q3156, by decide, by decide +kernel, (e_sig (by decide +kernel))⟩
theorem dX3_areSame_0 : decode cX3_areSame 0 = .ok (.aload_n 0, 1) := dc_42 (by decide +kernel)
theorem dX3_areSame_1 : decode cX3_areSame 1 = .ok (.iload_n 1, 1) := dc_27 (by decide +kernel)
theorem dX3_areSame_2 : decode cX3_areSame 2 = .ok (.invokevirtual 359, 3) := dc_182 (a := 1) (b := 103) (n := 359) (by decide +kernel)
theorem dX3_areSame_5 : decode cX3_areSame 5 = .ok (.aload_n 2, 1) := dc_44 (by decide +kernel)
theorem dX3_areSame_6 : decode cX3_areSame 6 = .ok (.iload_n 3, 1) := dc_29 (by decide +kernel)
theorem dX3_areSame_7 : decode cX3_areSame 7 = .ok (.invokevirtual 359, 3) := dc_182 (a := 1) (b := 103) (n := 359) (by decide +kernel)
theorem dX3_areSame_10 : decode cX3_areSame 10 = .ok (.if_icmp .ne 22, 3) := dc_160 (a := 0) (b := 22) (v := 22) (by decide +kernel)
theorem dX3_areSame_13 : decode cX3_areSame 13 = .ok (.aload_n 0, 1) := dc_42 (by decide +kernel)
theorem dX3_areSame_14 : decode cX3_areSame 14 = .ok (.iload_n 1, 1) := dc_27 (by decide +kernel)
theorem dX3_areSame_15 : decode cX3_areSame 15 = .ok (.iconst 0, 1) := dc_3 (by decide +kernel)
theorem dX3_areSame_16 : decode cX3_areSame 16 = .ok (.invokevirtual 363, 3) := dc_182 (a := 1) (b := 107) (n := 363) (by decide +kernel)
theorem dX3_areSame_19 : decode cX3_areSame 19 = .ok (.aload_n 2, 1) := dc_44 (by decide +kernel)
theorem dX3_areSame_20 : decode cX3_areSame 20 = .ok (.iload_n 3, 1) := dc_29 (by decide +kernel)
theorem dX3_areSame_21 : decode cX3_areSame 21 = .ok (.iconst 0, 1) := dc_3 (by decide +kernel)
theorem dX3_areSame_22 : decode cX3_areSame 22 = .ok (.invokevirtual 363, 3) := dc_182 (a := 1) (b := 107) (n := 363) (by decide +kernel)
theorem dX3_areSame_25 : decode cX3_areSame 25 = .ok (.if_icmp .ne 7, 3) := dc_160 (a := 0) (b := 7) (v := 7) (by decide +kernel)
theorem dX3_areSame_28 : decode cX3_areSame 28 = .ok (.iconst 1, 1) := dc_4 (by decide +kernel)
theorem dX3_areSame_29 : decode cX3_areSame 29 = .ok (.goto 4, 3) := dc_167 (a := 0) (b := 4) (v := 4) (by decide +kernel)
theorem dX3_areSame_32 : decode cX3_areSame 32 = .ok (.iconst 0, 1) := dc_3 (by decide +kernel)
theorem dX3_areSame_33 : decode cX3_areSame 33 = .ok (.ireturn, 1) := dc_172 (by decide +kernel)
def fX3_areSame_b33 (s0 : Int32) (h : eH) : Option (Int32 × eH) :=
  z_r s0 (s0, h)
theorem pX3_areSame_b33 {w : eW} {d : Nat} (hd : 1 ≤ d + 1) {s0 : Int32} {h : eH} {q} (hf : fX3_areSame_b33 s0 h = some q) : wp w (d + 1) YX3_areSame 33 [none, none, none, none] [.int s0] h (e_is (e_rn c_I q)) := by
  unfold fX3_areSame_b33 at hf
  obtain ⟨b1, rfl⟩ := z_r_some hf
  exact w_iret dX3_areSame_33 rfl b1 rfl
def fX3_areSame_b32  (h : eH) : Option (Int32 × eH) :=
  fX3_areSame_b33 (0 : Int32) h
theorem pX3_areSame_b32 {w : eW} {d : Nat} (hd : 1 ≤ d + 1)  {h : eH} {q} (hf : fX3_areSame_b32  h = some q) : wp w (d + 1) YX3_areSame 32 [none, none, none, none] [] h (e_is (e_rn c_I q)) := by
  unfold fX3_areSame_b32 at hf
  refine w_iconst dX3_areSame_32 (v := 0) (by decide) ?_
  exact (pX3_areSame_b33 hd hf).to trivial
def fX3_areSame (p0 : Nat) (p1 : Int32) (p2 : Nat) (p3 : Int32) (h : eH) : Option (Int32 × eH) :=
  (k_ok 33 h p0).bind fun _ =>
  (fX34_kind p0 p1 h).bind fun q2 =>
  (k_ok 33 q2.2 p2).bind fun _ =>
  (fX34_kind p2 p3 q2.2).bind fun q4 =>
  if ¬ q2.1 = q4.1 then
    fX3_areSame_b32 q4.2
  else
    (k_ok 33 q4.2 p0).bind fun _ =>
    (fX34_of p0 p1 (0 : Int32) q4.2).bind fun q7 =>
    (k_ok 33 q7.2 p2).bind fun _ =>
    (fX34_of p2 p3 (0 : Int32) q7.2).bind fun q9 =>
    if ¬ q7.1 = q9.1 then
      fX3_areSame_b32 q9.2
    else
      fX3_areSame_b33 (1 : Int32) q9.2
theorem pX3_areSame {w : eW} {d : Nat} (hd : 1 ≤ d) {p0 : Nat} {p1 : Int32} {p2 : Nat} {p3 : Int32} {h : eH} {q} (hf : fX3_areSame p0 p1 p2 p3 h = some q) : wm w d YX3_areSame [.ref p0, .int p1, .ref p2, .int p3] h (e_is (e_rn c_I q)) := by
  obtain ⟨d, rfl⟩ : ∃ e, d = e + 1 := ⟨d - 1, by omega⟩
  show wp w (d + 1) YX3_areSame 0 [some (.ref p0), some (.int p1), some (.ref p2), some (.int p3)] [] h _
  unfold fX3_areSame at hf
  refine w_aload_n dX3_areSame_0 rfl rfl ?_
  refine w_iload_n dX3_areSame_1 rfl rfl ?_
  obtain ⟨_, b1, hf⟩ := Option.bind_eq_some_iff.mp hf
  refine x_cnI hf (e_stV (Yc := YX34_kind) (ci := 33) (av := [.int p1]) (st := []) dX3_areSame_2 q3157 mX34_kind rfl (k_ok_some b1).1 (k_ok_some b1).2) mX34_kind.2.2.1 mX34_kind.2.2.2.2.1 (Nat.le_of_ble_eq_true rfl) (Nat.le_of_ble_eq_true rfl) (fun q hq => pX34_kind (by omega) hq) (fun q2 hf => ?_)
  refine w_aload_n dX3_areSame_5 rfl rfl ?_
  refine w_iload_n dX3_areSame_6 rfl rfl ?_
  obtain ⟨_, b3, hf⟩ := Option.bind_eq_some_iff.mp hf
  refine x_cnI hf (e_stV (Yc := YX34_kind) (ci := 33) (av := [.int p3]) (st := [.int q2.1]) dX3_areSame_7 q3157 mX34_kind rfl (k_ok_some b3).1 (k_ok_some b3).2) mX34_kind.2.2.1 mX34_kind.2.2.2.2.1 (Nat.le_of_ble_eq_true rfl) (Nat.le_of_ble_eq_true rfl) (fun q hq => pX34_kind (by omega) hq) (fun q4 hf => ?_)
  refine w_icmp_ne 32 dX3_areSame_10 (by decide) (fun c5 => ?_) (fun c5 => ?_)
  · replace hf := (if_pos (show ¬ q2.1 = q4.1 from c5)).symm.trans hf
    exact (pX3_areSame_b32 hd hf).to trivial
  · replace hf := (if_neg (show ¬ (¬ q2.1 = q4.1) from (fun z => z c5))).symm.trans hf
    refine w_aload_n dX3_areSame_13 rfl rfl ?_
    refine w_iload_n dX3_areSame_14 rfl rfl ?_
    refine w_iconst dX3_areSame_15 (v := 0) (by decide) ?_
    obtain ⟨_, b6, hf⟩ := Option.bind_eq_some_iff.mp hf
    refine x_cnI hf (e_stV (Yc := YX34_of) (ci := 33) (av := [.int p1, .int (0 : Int32)]) (st := []) dX3_areSame_16 q3161 mX34_of rfl (k_ok_some b6).1 (k_ok_some b6).2) mX34_of.2.2.1 mX34_of.2.2.2.2.1 (Nat.le_of_ble_eq_true rfl) (Nat.le_of_ble_eq_true rfl) (fun q hq => pX34_of (by omega) hq) (fun q7 hf => ?_)
    refine w_aload_n dX3_areSame_19 rfl rfl ?_
    refine w_iload_n dX3_areSame_20 rfl rfl ?_
    refine w_iconst dX3_areSame_21 (v := 0) (by decide) ?_
    obtain ⟨_, b8, hf⟩ := Option.bind_eq_some_iff.mp hf
    refine x_cnI hf (e_stV (Yc := YX34_of) (ci := 33) (av := [.int p3, .int (0 : Int32)]) (st := [.int q7.1]) dX3_areSame_22 q3161 mX34_of rfl (k_ok_some b8).1 (k_ok_some b8).2) mX34_of.2.2.1 mX34_of.2.2.2.2.1 (Nat.le_of_ble_eq_true rfl) (Nat.le_of_ble_eq_true rfl) (fun q hq => pX34_of (by omega) hq) (fun q9 hf => ?_)
    refine w_icmp_ne 32 dX3_areSame_25 (by decide) (fun c10 => ?_) (fun c10 => ?_)
    · replace hf := (if_pos (show ¬ q7.1 = q9.1 from c10)).symm.trans hf
      exact (pX3_areSame_b32 hd hf).to trivial
    · replace hf := (if_neg (show ¬ (¬ q7.1 = q9.1) from (fun z => z c10))).symm.trans hf
      refine w_iconst dX3_areSame_28 (v := 1) (by decide) ?_
      refine w_goto 33 dX3_areSame_29 (by decide) ?_
      exact (pX3_areSame_b33 hd hf).to trivial
abbrev cX3_ends : ByteArray := prog_26_method_26_code
def yX3_ends : MethodName := ⟨RX3, "ends", "(LTypeHouse$Lists;ILTypeHouse$Lists;I)Z"⟩
def YX3_ends : eY := (yX3_ends, cX3_ends, 6, (Option.some FieldType.boolean), [])
theorem mX3_ends : e_ms YX3_ends 4 := ⟨q3166, q428, q3167, by decide, by decide +kernel, (e_sig (by decide +kernel))⟩
theorem dX3_ends_0 : decode cX3_ends 0 = .ok (.aload_n 0, 1) := dc_42 (by decide +kernel)
theorem dX3_ends_1 : decode cX3_ends 1 = .ok (.getfield 210, 3) := dc_180 (a := 0) (b := 210) (n := 210) (by decide +kernel)
theorem dX3_ends_4 : decode cX3_ends 4 = .ok (.iload_n 1, 1) := dc_27 (by decide +kernel)
theorem dX3_ends_5 : decode cX3_ends 5 = .ok (.isub, 1) := dc_100 (by decide +kernel)
theorem dX3_ends_6 : decode cX3_ends 6 = .ok (.aload_n 2, 1) := dc_44 (by decide +kernel)
theorem dX3_ends_7 : decode cX3_ends 7 = .ok (.getfield 210, 3) := dc_180 (a := 0) (b := 210) (n := 210) (by decide +kernel)
theorem dX3_ends_10 : decode cX3_ends 10 = .ok (.iload_n 3, 1) := dc_29 (by decide +kernel)
theorem dX3_ends_11 : decode cX3_ends 11 = .ok (.isub, 1) := dc_100 (by decide +kernel)
theorem dX3_ends_12 : decode cX3_ends 12 = .ok (.if_icmp .ne 7, 3) := dc_160 (a := 0) (b := 7) (v := 7) (by decide +kernel)
theorem dX3_ends_15 : decode cX3_ends 15 = .ok (.iconst 1, 1) := dc_4 (by decide +kernel)
theorem dX3_ends_16 : decode cX3_ends 16 = .ok (.goto 4, 3) := dc_167 (a := 0) (b := 4) (v := 4) (by decide +kernel)
theorem dX3_ends_19 : decode cX3_ends 19 = .ok (.iconst 0, 1) := dc_3 (by decide +kernel)
theorem dX3_ends_20 : decode cX3_ends 20 = .ok (.istore 4, 2) := dc_54 (a := 4) (by decide +kernel)
theorem dX3_ends_22 : decode cX3_ends 22 = .ok (.iload_n 1, 1) := dc_27 (by decide +kernel)
theorem dX3_ends_23 : decode cX3_ends 23 = .ok (.istore 5, 2) := dc_54 (a := 5) (by decide +kernel)
theorem dX3_ends_25 : decode cX3_ends 25 = .ok (.iload 4, 2) := dc_21 (a := 4) (by decide +kernel)
theorem dX3_ends_27 : decode cX3_ends 27 = .ok (.ifCond .eq 33, 3) := dc_153 (a := 0) (b := 33) (v := 33) (by decide +kernel)
theorem dX3_ends_30 : decode cX3_ends 30 = .ok (.iload 5, 2) := dc_21 (a := 5) (by decide +kernel)
theorem dX3_ends_32 : decode cX3_ends 32 = .ok (.aload_n 0, 1) := dc_42 (by decide +kernel)
theorem dX3_ends_33 : decode cX3_ends 33 = .ok (.getfield 210, 3) := dc_180 (a := 0) (b := 210) (n := 210) (by decide +kernel)
theorem dX3_ends_36 : decode cX3_ends 36 = .ok (.if_icmp .ge 24, 3) := dc_162 (a := 0) (b := 24) (v := 24) (by decide +kernel)
theorem dX3_ends_39 : decode cX3_ends 39 = .ok (.aload_n 0, 1) := dc_42 (by decide +kernel)
theorem dX3_ends_40 : decode cX3_ends 40 = .ok (.iload 5, 2) := dc_21 (a := 5) (by decide +kernel)
theorem dX3_ends_42 : decode cX3_ends 42 = .ok (.aload_n 2, 1) := dc_44 (by decide +kernel)
theorem dX3_ends_43 : decode cX3_ends 43 = .ok (.iload_n 3, 1) := dc_29 (by decide +kernel)
theorem dX3_ends_44 : decode cX3_ends 44 = .ok (.iload 5, 2) := dc_21 (a := 5) (by decide +kernel)
theorem dX3_ends_46 : decode cX3_ends 46 = .ok (.iadd, 1) := dc_96 (by decide +kernel)
theorem dX3_ends_47 : decode cX3_ends 47 = .ok (.iload_n 1, 1) := dc_27 (by decide +kernel)
theorem dX3_ends_48 : decode cX3_ends 48 = .ok (.isub, 1) := dc_100 (by decide +kernel)
theorem dX3_ends_49 : decode cX3_ends 49 = .ok (.invokestatic 471, 3) := dc_184 (a := 1) (b := 215) (n := 471) (by decide +kernel)
theorem dX3_ends_52 : decode cX3_ends 52 = .ok (.istore 4, 2) := dc_54 (a := 4) (by decide +kernel)
theorem dX3_ends_54 : decode cX3_ends 54 = .ok (.iinc 5 1, 3) := dc_132 (a := 5) (b := 1) (v := 1) (by decide +kernel)
theorem dX3_ends_57 : decode cX3_ends 57 = .ok (.goto (-32), 3) := dc_167 (a := 255) (b := 224) (v := -32) (by decide +kernel)
theorem dX3_ends_60 : decode cX3_ends 60 = .ok (.iload 4, 2) := dc_21 (a := 4) (by decide +kernel)
theorem dX3_ends_62 : decode cX3_ends 62 = .ok (.ireturn, 1) := dc_172 (by decide +kernel)
theorem GX3_210 {w : eW} {d : Nat} {Y : eY} {pc : Nat} {ls : eL} {st : List Value} {h : eH} {Q : eO → eH → Prop} {a : Nat} {x : Int32} (hf : g_I 33 h a 1 = some x) (hd : decode Y.2.1 pc = .ok (.getfield 210, 3)) (hY : Y.1.cls = RX3) (kk : wp w d Y (pc + 3) ls (.int x :: st) h Q) : wp w d Y pc ls (.ref a :: st) h Q := x_gIN (ci := 33) (k := 1) hf hd rfl (by decide) (by rw [hY]; exact q1781) kk
def fX3_ends_b60 (N : Nat) (l4 : Int32) (h : eH) : Option (Int32 × eH) :=
  z_r l4 (l4, h)
theorem pX3_ends_b60 {w : eW} {d : Nat} (hd : 2 ≤ d + 1) {N : Nat} {l4 : Int32} {h : eH} {q} (hf : fX3_ends_b60 N l4 h = some q) : wp w (d + 1) YX3_ends 60 [none, none, none, none, some (.int l4), none] [] h (e_is (e_rn c_I q)) := by
  unfold fX3_ends_b60 at hf
  refine w_iload dX3_ends_60 rfl ?_
  obtain ⟨b1, rfl⟩ := z_r_some hf
  exact w_iret dX3_ends_62 rfl b1 rfl
def fX3_ends_b25 (N : Nat) : Nat → Nat → Int32 → Nat → Int32 → Int32 → Int32 → eH → Option (Int32 × eH)
  | 0, _, _, _, _, _, _, _ => none
  | n + 1, l0, l1, l2, l3, l4, l5, h =>
    if l4 = 0 then
      fX3_ends_b60 N l4 h
    else
      (g_I 33 h l0 1).bind fun x2 =>
      if x2 ≤ l5 then
        fX3_ends_b60 N l4 h
      else
        (fX3_areSame l0 l5 l2 ((l3 + l5) - l1) h).bind fun q5 =>
        fX3_ends_b25 N n l0 l1 l2 l3 q5.1 (l5 + (1 : Int32)) q5.2
theorem pX3_ends_b25 {w : eW} {d : Nat} (hd : 2 ≤ d + 1) {N : Nat} : ∀ (n : Nat) l0 l1 l2 l3 l4 l5 h q, fX3_ends_b25 N n l0 l1 l2 l3 l4 l5 h = some q → wp w (d + 1) YX3_ends 25 [some (.ref l0), some (.int l1), some (.ref l2), some (.int l3), some (.int l4), some (.int l5)] [] h (e_is (e_rn c_I q)) := by
  intro n
  induction n with
  | zero => intro l0 l1 l2 l3 l4 l5 h q hf; simp [fX3_ends_b25] at hf
  | succ n ih =>
    intro l0 l1 l2 l3 l4 l5 h q hf
    rw [fX3_ends_b25] at hf
    refine w_iload dX3_ends_25 rfl ?_
    refine w_if_eq 60 dX3_ends_27 (by decide) (fun c1 => ?_) (fun c1 => ?_)
    · replace hf := (if_pos (show l4 = 0 from c1)).symm.trans hf
      exact (pX3_ends_b60 hd hf).to ⟨rfl, trivial⟩
    · replace hf := (if_neg (show ¬ (l4 = 0) from c1)).symm.trans hf
      refine w_iload dX3_ends_30 rfl ?_
      refine w_aload_n dX3_ends_32 rfl rfl ?_
      obtain ⟨x2, b3, hf⟩ := Option.bind_eq_some_iff.mp hf
      refine GX3_210 b3 dX3_ends_33 rfl ?_
      refine w_icmp_ge 60 dX3_ends_36 (by decide) (fun c4 => ?_) (fun c4 => ?_)
      · replace hf := (if_pos (show x2 ≤ l5 from c4)).symm.trans hf
        exact (pX3_ends_b60 hd hf).to ⟨rfl, trivial⟩
      · replace hf := (if_neg (show ¬ (x2 ≤ l5) from c4)).symm.trans hf
        refine w_aload_n dX3_ends_39 rfl rfl ?_
        refine w_iload dX3_ends_40 rfl ?_
        refine w_aload_n dX3_ends_42 rfl rfl ?_
        refine w_iload_n dX3_ends_43 rfl rfl ?_
        refine w_iload dX3_ends_44 rfl ?_
        refine w_iadd dX3_ends_46 ?_
        refine w_iload_n dX3_ends_47 rfl rfl ?_
        refine w_isub dX3_ends_48 ?_
        refine x_cnI hf (e_stS (Yc := YX3_areSame) (av := [.ref l0, .int l5, .ref l2, .int ((l3 + l5) - l1)]) (st := []) dX3_ends_49 q3154 mX3_areSame) mX3_areSame.2.2.1 mX3_areSame.2.2.2.2.1 (Nat.le_of_ble_eq_true rfl) (Nat.le_of_ble_eq_true rfl) (fun q hq => pX3_areSame (by omega) hq) (fun q5 hf => ?_)
        refine w_istore dX3_ends_52 (by decide) (ls' := [some (.ref l0), some (.int l1), some (.ref l2), some (.int l3), some (.int q5.1), some (.int l5)]) rfl ?_
        refine w_iinc dX3_ends_54 (v := (l5 + (1 : Int32))) rfl rfl (by decide) (ls' := [some (.ref l0), some (.int l1), some (.ref l2), some (.int l3), some (.int q5.1), some (.int (l5 + (1 : Int32)))]) rfl ?_
        refine w_goto 25 dX3_ends_57 (by decide) ?_
        exact (ih _ _ _ _ _ _ _ _ hf).to ⟨rfl, rfl, rfl, rfl, rfl, rfl, trivial⟩
def fX3_ends_b20 (N : Nat) (l0 : Nat) (l1 : Int32) (l2 : Nat) (l3 : Int32) (s0 : Int32) (h : eH) : Option (Int32 × eH) :=
  fX3_ends_b25 N N l0 l1 l2 l3 s0 l1 h
theorem pX3_ends_b20 {w : eW} {d : Nat} (hd : 2 ≤ d + 1) {N : Nat} {l0 : Nat} {l1 : Int32} {l2 : Nat} {l3 : Int32} {s0 : Int32} {h : eH} {q} (hf : fX3_ends_b20 N l0 l1 l2 l3 s0 h = some q) : wp w (d + 1) YX3_ends 20 [some (.ref l0), some (.int l1), some (.ref l2), some (.int l3), none, none] [.int s0] h (e_is (e_rn c_I q)) := by
  unfold fX3_ends_b20 at hf
  refine w_istore dX3_ends_20 (by decide) (ls' := [some (.ref l0), some (.int l1), some (.ref l2), some (.int l3), some (.int s0), none]) rfl ?_
  refine w_iload_n dX3_ends_22 rfl rfl ?_
  refine w_istore dX3_ends_23 (by decide) (ls' := [some (.ref l0), some (.int l1), some (.ref l2), some (.int l3), some (.int s0), some (.int l1)]) rfl ?_
  exact (pX3_ends_b25 hd N _ _ _ _ _ _ _ _ hf).to ⟨rfl, rfl, rfl, rfl, rfl, rfl, trivial⟩
def fX3_ends (N : Nat) (p0 : Nat) (p1 : Int32) (p2 : Nat) (p3 : Int32) (h : eH) : Option (Int32 × eH) :=
  (g_I 33 h p0 1).bind fun x1 =>
  (g_I 33 h p2 1).bind fun x3 =>
  if ¬ (x1 - p1) = (x3 - p3) then
    fX3_ends_b20 N p0 p1 p2 p3 (0 : Int32) h
  else
    fX3_ends_b20 N p0 p1 p2 p3 (1 : Int32) h
theorem pX3_ends {w : eW} {d : Nat} (hd : 2 ≤ d) {N : Nat} {p0 : Nat} {p1 : Int32} {p2 : Nat} {p3 : Int32} {h : eH} {q} (hf : fX3_ends N p0 p1 p2 p3 h = some q) : wm w d YX3_ends [.ref p0, .int p1, .ref p2, .int p3] h (e_is (e_rn c_I q)) := by
  obtain ⟨d, rfl⟩ : ∃ e, d = e + 1 := ⟨d - 1, by omega⟩
  show wp w (d + 1) YX3_ends 0 [some (.ref p0), some (.int p1), some (.ref p2), some (.int p3), none, none] [] h _
  unfold fX3_ends at hf
  refine w_aload_n dX3_ends_0 rfl rfl ?_
  obtain ⟨x1, b2, hf⟩ := Option.bind_eq_some_iff.mp hf
  refine GX3_210 b2 dX3_ends_1 rfl ?_
  refine w_iload_n dX3_ends_4 rfl rfl ?_
  refine w_isub dX3_ends_5 ?_
  refine w_aload_n dX3_ends_6 rfl rfl ?_
  obtain ⟨x3, b4, hf⟩ := Option.bind_eq_some_iff.mp hf
  refine GX3_210 b4 dX3_ends_7 rfl ?_
  refine w_iload_n dX3_ends_10 rfl rfl ?_
  refine w_isub dX3_ends_11 ?_
  refine w_icmp_ne 19 dX3_ends_12 (by decide) (fun c5 => ?_) (fun c5 => ?_)
  · replace hf := (if_pos (show ¬ (x1 - p1) = (x3 - p3) from c5)).symm.trans hf
    refine w_iconst dX3_ends_19 (v := 0) (by decide) ?_
    exact (pX3_ends_b20 hd hf).to ⟨rfl, rfl, rfl, rfl, trivial⟩
  · replace hf := (if_neg (show ¬ (¬ (x1 - p1) = (x3 - p3)) from (fun z => z c5))).symm.trans hf
    refine w_iconst dX3_ends_15 (v := 1) (by decide) ?_
    refine w_goto 20 dX3_ends_16 (by decide) ?_
    exact (pX3_ends_b20 hd hf).to ⟨rfl, rfl, rfl, rfl, trivial⟩
abbrev cX3_noteHyphen : ByteArray := prog_26_method_27_code
def yX3_noteHyphen : MethodName := ⟨RX3, "noteHyphen", "(I)V"⟩
def YX3_noteHyphen : eY := (yX3_noteHyphen, cX3_noteHyphen, 6, none, [])
theorem mX3_noteHyphen : e_mv YX3_noteHyphen RX3 1 := ⟨q3152, qs111, q3153, by decide, by decide +kernel, (e_sig (by decide +kernel))⟩
theorem dX3_noteHyphen_0 : decode cX3_noteHyphen 0 = .ok (.aload_n 0, 1) := dc_42 (by decide +kernel)
theorem dX3_noteHyphen_1 : decode cX3_noteHyphen 1 = .ok (.getfield 172, 3) := dc_180 (a := 0) (b := 172) (n := 172) (by decide +kernel)
theorem dX3_noteHyphen_4 : decode cX3_noteHyphen 4 = .ok (.iconst 0, 1) := dc_3 (by decide +kernel)
theorem dX3_noteHyphen_5 : decode cX3_noteHyphen 5 = .ok (.putfield 210, 3) := dc_181 (a := 0) (b := 210) (n := 210) (by decide +kernel)
theorem dX3_noteHyphen_8 : decode cX3_noteHyphen 8 = .ok (.aload_n 0, 1) := dc_42 (by decide +kernel)
theorem dX3_noteHyphen_9 : decode cX3_noteHyphen 9 = .ok (.aload_n 0, 1) := dc_42 (by decide +kernel)
theorem dX3_noteHyphen_10 : decode cX3_noteHyphen 10 = .ok (.getfield 162, 3) := dc_180 (a := 0) (b := 162) (n := 162) (by decide +kernel)
theorem dX3_noteHyphen_13 : decode cX3_noteHyphen 13 = .ok (.iload_n 1, 1) := dc_27 (by decide +kernel)
theorem dX3_noteHyphen_14 : decode cX3_noteHyphen 14 = .ok (.aload_n 0, 1) := dc_42 (by decide +kernel)
theorem dX3_noteHyphen_15 : decode cX3_noteHyphen 15 = .ok (.getfield 172, 3) := dc_180 (a := 0) (b := 172) (n := 172) (by decide +kernel)
theorem dX3_noteHyphen_18 : decode cX3_noteHyphen 18 = .ok (.invokevirtual 475, 3) := dc_182 (a := 1) (b := 219) (n := 475) (by decide +kernel)
theorem dX3_noteHyphen_21 : decode cX3_noteHyphen 21 = .ok (.ifCond .ne 4, 3) := dc_154 (a := 0) (b := 4) (v := 4) (by decide +kernel)
theorem dX3_noteHyphen_24 : decode cX3_noteHyphen 24 = .ok (.return_, 1) := dc_177 (by decide +kernel)
theorem dX3_noteHyphen_25 : decode cX3_noteHyphen 25 = .ok (.aload_n 0, 1) := dc_42 (by decide +kernel)
theorem dX3_noteHyphen_26 : decode cX3_noteHyphen 26 = .ok (.getfield 172, 3) := dc_180 (a := 0) (b := 172) (n := 172) (by decide +kernel)
theorem dX3_noteHyphen_29 : decode cX3_noteHyphen 29 = .ok (.getfield 210, 3) := dc_180 (a := 0) (b := 210) (n := 210) (by decide +kernel)
theorem dX3_noteHyphen_32 : decode cX3_noteHyphen 32 = .ok (.istore_n 2, 1) := dc_61 (by decide +kernel)
theorem dX3_noteHyphen_33 : decode cX3_noteHyphen 33 = .ok (.iload_n 1, 1) := dc_27 (by decide +kernel)
theorem dX3_noteHyphen_34 : decode cX3_noteHyphen 34 = .ok (.istore_n 3, 1) := dc_62 (by decide +kernel)
theorem dX3_noteHyphen_35 : decode cX3_noteHyphen 35 = .ok (.iload_n 3, 1) := dc_29 (by decide +kernel)
theorem dX3_noteHyphen_36 : decode cX3_noteHyphen 36 = .ok (.aload_n 0, 1) := dc_42 (by decide +kernel)
theorem dX3_noteHyphen_37 : decode cX3_noteHyphen 37 = .ok (.getfield 219, 3) := dc_180 (a := 0) (b := 219) (n := 219) (by decide +kernel)
theorem dX3_noteHyphen_40 : decode cX3_noteHyphen 40 = .ok (.if_icmp .ge 23, 3) := dc_162 (a := 0) (b := 23) (v := 23) (by decide +kernel)
theorem dX3_noteHyphen_43 : decode cX3_noteHyphen 43 = .ok (.aload_n 0, 1) := dc_42 (by decide +kernel)
theorem dX3_noteHyphen_44 : decode cX3_noteHyphen 44 = .ok (.getfield 166, 3) := dc_180 (a := 0) (b := 166) (n := 166) (by decide +kernel)
theorem dX3_noteHyphen_47 : decode cX3_noteHyphen 47 = .ok (.iload_n 3, 1) := dc_29 (by decide +kernel)
theorem dX3_noteHyphen_48 : decode cX3_noteHyphen 48 = .ok (.iload_n 1, 1) := dc_27 (by decide +kernel)
theorem dX3_noteHyphen_49 : decode cX3_noteHyphen 49 = .ok (.isub, 1) := dc_100 (by decide +kernel)
theorem dX3_noteHyphen_50 : decode cX3_noteHyphen 50 = .ok (.aload_n 0, 1) := dc_42 (by decide +kernel)
theorem dX3_noteHyphen_51 : decode cX3_noteHyphen 51 = .ok (.getfield 162, 3) := dc_180 (a := 0) (b := 162) (n := 162) (by decide +kernel)
theorem dX3_noteHyphen_54 : decode cX3_noteHyphen 54 = .ok (.iload_n 3, 1) := dc_29 (by decide +kernel)
theorem dX3_noteHyphen_55 : decode cX3_noteHyphen 55 = .ok (.baload, 1) := dc_51 (by decide +kernel)
theorem dX3_noteHyphen_56 : decode cX3_noteHyphen 56 = .ok (.bastore, 1) := dc_84 (by decide +kernel)
theorem dX3_noteHyphen_57 : decode cX3_noteHyphen 57 = .ok (.iinc 3 1, 3) := dc_132 (a := 3) (b := 1) (v := 1) (by decide +kernel)
theorem dX3_noteHyphen_60 : decode cX3_noteHyphen 60 = .ok (.goto (-25), 3) := dc_167 (a := 255) (b := 231) (v := -25) (by decide +kernel)
theorem dX3_noteHyphen_63 : decode cX3_noteHyphen 63 = .ok (.aload_n 0, 1) := dc_42 (by decide +kernel)
theorem dX3_noteHyphen_64 : decode cX3_noteHyphen 64 = .ok (.aload_n 0, 1) := dc_42 (by decide +kernel)
theorem dX3_noteHyphen_65 : decode cX3_noteHyphen 65 = .ok (.getfield 166, 3) := dc_180 (a := 0) (b := 166) (n := 166) (by decide +kernel)
theorem dX3_noteHyphen_68 : decode cX3_noteHyphen 68 = .ok (.aload_n 0, 1) := dc_42 (by decide +kernel)
theorem dX3_noteHyphen_69 : decode cX3_noteHyphen 69 = .ok (.getfield 219, 3) := dc_180 (a := 0) (b := 219) (n := 219) (by decide +kernel)
theorem dX3_noteHyphen_72 : decode cX3_noteHyphen 72 = .ok (.iload_n 1, 1) := dc_27 (by decide +kernel)
theorem dX3_noteHyphen_73 : decode cX3_noteHyphen 73 = .ok (.isub, 1) := dc_100 (by decide +kernel)
theorem dX3_noteHyphen_74 : decode cX3_noteHyphen 74 = .ok (.aload_n 0, 1) := dc_42 (by decide +kernel)
theorem dX3_noteHyphen_75 : decode cX3_noteHyphen 75 = .ok (.getfield 172, 3) := dc_180 (a := 0) (b := 172) (n := 172) (by decide +kernel)
theorem dX3_noteHyphen_78 : decode cX3_noteHyphen 78 = .ok (.invokevirtual 475, 3) := dc_182 (a := 1) (b := 219) (n := 475) (by decide +kernel)
theorem dX3_noteHyphen_81 : decode cX3_noteHyphen 81 = .ok (.ifCond .ne 4, 3) := dc_154 (a := 0) (b := 4) (v := 4) (by decide +kernel)
theorem dX3_noteHyphen_84 : decode cX3_noteHyphen 84 = .ok (.return_, 1) := dc_177 (by decide +kernel)
theorem dX3_noteHyphen_85 : decode cX3_noteHyphen 85 = .ok (.iload_n 2, 1) := dc_28 (by decide +kernel)
theorem dX3_noteHyphen_86 : decode cX3_noteHyphen 86 = .ok (.aload_n 0, 1) := dc_42 (by decide +kernel)
theorem dX3_noteHyphen_87 : decode cX3_noteHyphen 87 = .ok (.getfield 169, 3) := dc_180 (a := 0) (b := 169) (n := 169) (by decide +kernel)
theorem dX3_noteHyphen_90 : decode cX3_noteHyphen 90 = .ok (.getfield 210, 3) := dc_180 (a := 0) (b := 210) (n := 210) (by decide +kernel)
theorem dX3_noteHyphen_93 : decode cX3_noteHyphen 93 = .ok (.if_icmp .gt 7, 3) := dc_163 (a := 0) (b := 7) (v := 7) (by decide +kernel)
theorem dX3_noteHyphen_96 : decode cX3_noteHyphen 96 = .ok (.iconst 1, 1) := dc_4 (by decide +kernel)
theorem dX3_noteHyphen_97 : decode cX3_noteHyphen 97 = .ok (.goto 4, 3) := dc_167 (a := 0) (b := 4) (v := 4) (by decide +kernel)
theorem dX3_noteHyphen_100 : decode cX3_noteHyphen 100 = .ok (.iconst 0, 1) := dc_3 (by decide +kernel)
theorem dX3_noteHyphen_101 : decode cX3_noteHyphen 101 = .ok (.istore_n 3, 1) := dc_62 (by decide +kernel)
theorem dX3_noteHyphen_102 : decode cX3_noteHyphen 102 = .ok (.iconst 0, 1) := dc_3 (by decide +kernel)
theorem dX3_noteHyphen_103 : decode cX3_noteHyphen 103 = .ok (.istore 4, 2) := dc_54 (a := 4) (by decide +kernel)
theorem dX3_noteHyphen_105 : decode cX3_noteHyphen 105 = .ok (.iload_n 3, 1) := dc_29 (by decide +kernel)
theorem dX3_noteHyphen_106 : decode cX3_noteHyphen 106 = .ok (.ifCond .eq 31, 3) := dc_153 (a := 0) (b := 31) (v := 31) (by decide +kernel)
theorem dX3_noteHyphen_109 : decode cX3_noteHyphen 109 = .ok (.iload 4, 2) := dc_21 (a := 4) (by decide +kernel)
theorem dX3_noteHyphen_111 : decode cX3_noteHyphen 111 = .ok (.iload_n 2, 1) := dc_28 (by decide +kernel)
theorem dX3_noteHyphen_112 : decode cX3_noteHyphen 112 = .ok (.if_icmp .ge 25, 3) := dc_162 (a := 0) (b := 25) (v := 25) (by decide +kernel)
theorem dX3_noteHyphen_115 : decode cX3_noteHyphen 115 = .ok (.aload_n 0, 1) := dc_42 (by decide +kernel)
theorem dX3_noteHyphen_116 : decode cX3_noteHyphen 116 = .ok (.getfield 169, 3) := dc_180 (a := 0) (b := 169) (n := 169) (by decide +kernel)
theorem dX3_noteHyphen_119 : decode cX3_noteHyphen 119 = .ok (.iload 4, 2) := dc_21 (a := 4) (by decide +kernel)
theorem dX3_noteHyphen_121 : decode cX3_noteHyphen 121 = .ok (.aload_n 0, 1) := dc_42 (by decide +kernel)
theorem dX3_noteHyphen_122 : decode cX3_noteHyphen 122 = .ok (.getfield 172, 3) := dc_180 (a := 0) (b := 172) (n := 172) (by decide +kernel)
theorem dX3_noteHyphen_125 : decode cX3_noteHyphen 125 = .ok (.iload 4, 2) := dc_21 (a := 4) (by decide +kernel)
theorem dX3_noteHyphen_127 : decode cX3_noteHyphen 127 = .ok (.invokestatic 471, 3) := dc_184 (a := 1) (b := 215) (n := 471) (by decide +kernel)
theorem dX3_noteHyphen_130 : decode cX3_noteHyphen 130 = .ok (.istore_n 3, 1) := dc_62 (by decide +kernel)
theorem dX3_noteHyphen_131 : decode cX3_noteHyphen 131 = .ok (.iinc 4 1, 3) := dc_132 (a := 4) (b := 1) (v := 1) (by decide +kernel)
theorem dX3_noteHyphen_134 : decode cX3_noteHyphen 134 = .ok (.goto (-29), 3) := dc_167 (a := 255) (b := 227) (v := -29) (by decide +kernel)
theorem dX3_noteHyphen_137 : decode cX3_noteHyphen 137 = .ok (.iload_n 3, 1) := dc_29 (by decide +kernel)
theorem dX3_noteHyphen_138 : decode cX3_noteHyphen 138 = .ok (.ifCond .ne 4, 3) := dc_154 (a := 0) (b := 4) (v := 4) (by decide +kernel)
theorem dX3_noteHyphen_141 : decode cX3_noteHyphen 141 = .ok (.return_, 1) := dc_177 (by decide +kernel)
theorem dX3_noteHyphen_142 : decode cX3_noteHyphen 142 = .ok (.iload_n 2, 1) := dc_28 (by decide +kernel)
theorem dX3_noteHyphen_143 : decode cX3_noteHyphen 143 = .ok (.aload_n 0, 1) := dc_42 (by decide +kernel)
theorem dX3_noteHyphen_144 : decode cX3_noteHyphen 144 = .ok (.getfield 169, 3) := dc_180 (a := 0) (b := 169) (n := 169) (by decide +kernel)
theorem dX3_noteHyphen_147 : decode cX3_noteHyphen 147 = .ok (.getfield 210, 3) := dc_180 (a := 0) (b := 210) (n := 210) (by decide +kernel)
theorem dX3_noteHyphen_150 : decode cX3_noteHyphen 150 = .ok (.if_icmp .ge 19, 3) := dc_162 (a := 0) (b := 19) (v := 19) (by decide +kernel)
theorem dX3_noteHyphen_153 : decode cX3_noteHyphen 153 = .ok (.aload_n 0, 1) := dc_42 (by decide +kernel)
theorem dX3_noteHyphen_154 : decode cX3_noteHyphen 154 = .ok (.getfield 169, 3) := dc_180 (a := 0) (b := 169) (n := 169) (by decide +kernel)
theorem dX3_noteHyphen_157 : decode cX3_noteHyphen 157 = .ok (.iload_n 2, 1) := dc_28 (by decide +kernel)
theorem dX3_noteHyphen_158 : decode cX3_noteHyphen 158 = .ok (.invokevirtual 359, 3) := dc_182 (a := 1) (b := 103) (n := 359) (by decide +kernel)
theorem dX3_noteHyphen_161 : decode cX3_noteHyphen 161 = .ok (.iconst 3, 1) := dc_6 (by decide +kernel)
theorem dX3_noteHyphen_162 : decode cX3_noteHyphen 162 = .ok (.if_icmp .ne 7, 3) := dc_160 (a := 0) (b := 7) (v := 7) (by decide +kernel)
theorem dX3_noteHyphen_165 : decode cX3_noteHyphen 165 = .ok (.iconst 1, 1) := dc_4 (by decide +kernel)
theorem dX3_noteHyphen_166 : decode cX3_noteHyphen 166 = .ok (.goto 4, 3) := dc_167 (a := 0) (b := 4) (v := 4) (by decide +kernel)
theorem dX3_noteHyphen_169 : decode cX3_noteHyphen 169 = .ok (.iconst 0, 1) := dc_3 (by decide +kernel)
theorem dX3_noteHyphen_170 : decode cX3_noteHyphen 170 = .ok (.istore 4, 2) := dc_54 (a := 4) (by decide +kernel)
theorem dX3_noteHyphen_172 : decode cX3_noteHyphen 172 = .ok (.aload_n 0, 1) := dc_42 (by decide +kernel)
theorem dX3_noteHyphen_173 : decode cX3_noteHyphen 173 = .ok (.getfield 169, 3) := dc_180 (a := 0) (b := 169) (n := 169) (by decide +kernel)
theorem dX3_noteHyphen_176 : decode cX3_noteHyphen 176 = .ok (.iload_n 2, 1) := dc_28 (by decide +kernel)
theorem dX3_noteHyphen_177 : decode cX3_noteHyphen 177 = .ok (.aload_n 0, 1) := dc_42 (by decide +kernel)
theorem dX3_noteHyphen_178 : decode cX3_noteHyphen 178 = .ok (.getfield 172, 3) := dc_180 (a := 0) (b := 172) (n := 172) (by decide +kernel)
theorem dX3_noteHyphen_181 : decode cX3_noteHyphen 181 = .ok (.iload_n 2, 1) := dc_28 (by decide +kernel)
theorem dX3_noteHyphen_182 : decode cX3_noteHyphen 182 = .ok (.invokestatic 479, 3) := dc_184 (a := 1) (b := 223) (n := 479) (by decide +kernel)
theorem dX3_noteHyphen_185 : decode cX3_noteHyphen 185 = .ok (.istore 5, 2) := dc_54 (a := 5) (by decide +kernel)
theorem dX3_noteHyphen_187 : decode cX3_noteHyphen 187 = .ok (.iload 5, 2) := dc_21 (a := 5) (by decide +kernel)
theorem dX3_noteHyphen_189 : decode cX3_noteHyphen 189 = .ok (.ifCond .ne 27, 3) := dc_154 (a := 0) (b := 27) (v := 27) (by decide +kernel)
theorem dX3_noteHyphen_192 : decode cX3_noteHyphen 192 = .ok (.iload 4, 2) := dc_21 (a := 4) (by decide +kernel)
theorem dX3_noteHyphen_194 : decode cX3_noteHyphen 194 = .ok (.ifCond .eq 21, 3) := dc_153 (a := 0) (b := 21) (v := 21) (by decide +kernel)
theorem dX3_noteHyphen_197 : decode cX3_noteHyphen 197 = .ok (.aload_n 0, 1) := dc_42 (by decide +kernel)
theorem dX3_noteHyphen_198 : decode cX3_noteHyphen 198 = .ok (.getfield 169, 3) := dc_180 (a := 0) (b := 169) (n := 169) (by decide +kernel)
theorem dX3_noteHyphen_201 : decode cX3_noteHyphen 201 = .ok (.iload_n 2, 1) := dc_28 (by decide +kernel)
theorem dX3_noteHyphen_202 : decode cX3_noteHyphen 202 = .ok (.iconst 1, 1) := dc_4 (by decide +kernel)
theorem dX3_noteHyphen_203 : decode cX3_noteHyphen 203 = .ok (.iadd, 1) := dc_96 (by decide +kernel)
theorem dX3_noteHyphen_204 : decode cX3_noteHyphen 204 = .ok (.aload_n 0, 1) := dc_42 (by decide +kernel)
theorem dX3_noteHyphen_205 : decode cX3_noteHyphen 205 = .ok (.getfield 172, 3) := dc_180 (a := 0) (b := 172) (n := 172) (by decide +kernel)
theorem dX3_noteHyphen_208 : decode cX3_noteHyphen 208 = .ok (.iload_n 2, 1) := dc_28 (by decide +kernel)
theorem dX3_noteHyphen_209 : decode cX3_noteHyphen 209 = .ok (.invokestatic 479, 3) := dc_184 (a := 1) (b := 223) (n := 479) (by decide +kernel)
theorem dX3_noteHyphen_212 : decode cX3_noteHyphen 212 = .ok (.ifCond .ne 4, 3) := dc_154 (a := 0) (b := 4) (v := 4) (by decide +kernel)
theorem dX3_noteHyphen_215 : decode cX3_noteHyphen 215 = .ok (.return_, 1) := dc_177 (by decide +kernel)
theorem dX3_noteHyphen_216 : decode cX3_noteHyphen 216 = .ok (.aload_n 0, 1) := dc_42 (by decide +kernel)
theorem dX3_noteHyphen_217 : decode cX3_noteHyphen 217 = .ok (.getfield 175, 3) := dc_180 (a := 0) (b := 175) (n := 175) (by decide +kernel)
theorem dX3_noteHyphen_220 : decode cX3_noteHyphen 220 = .ok (.iload_n 2, 1) := dc_28 (by decide +kernel)
theorem dX3_noteHyphen_221 : decode cX3_noteHyphen 221 = .ok (.iaload, 1) := dc_46 (by decide +kernel)
theorem dX3_noteHyphen_222 : decode cX3_noteHyphen 222 = .ok (.ifCond .ne 19, 3) := dc_154 (a := 0) (b := 19) (v := 19) (by decide +kernel)
theorem dX3_noteHyphen_225 : decode cX3_noteHyphen 225 = .ok (.aload_n 0, 1) := dc_42 (by decide +kernel)
theorem dX3_noteHyphen_226 : decode cX3_noteHyphen 226 = .ok (.getfield 175, 3) := dc_180 (a := 0) (b := 175) (n := 175) (by decide +kernel)
theorem dX3_noteHyphen_229 : decode cX3_noteHyphen 229 = .ok (.iload_n 2, 1) := dc_28 (by decide +kernel)
theorem dX3_noteHyphen_230 : decode cX3_noteHyphen 230 = .ok (.iload 5, 2) := dc_21 (a := 5) (by decide +kernel)
theorem dX3_noteHyphen_232 : decode cX3_noteHyphen 232 = .ok (.ifCond .eq 7, 3) := dc_153 (a := 0) (b := 7) (v := 7) (by decide +kernel)
theorem dX3_noteHyphen_235 : decode cX3_noteHyphen 235 = .ok (.iconst 1, 1) := dc_4 (by decide +kernel)
theorem dX3_noteHyphen_236 : decode cX3_noteHyphen 236 = .ok (.goto 4, 3) := dc_167 (a := 0) (b := 4) (v := 4) (by decide +kernel)
theorem dX3_noteHyphen_239 : decode cX3_noteHyphen 239 = .ok (.iconst 2, 1) := dc_5 (by decide +kernel)
theorem dX3_noteHyphen_240 : decode cX3_noteHyphen 240 = .ok (.iastore, 1) := dc_79 (by decide +kernel)
theorem dX3_noteHyphen_241 : decode cX3_noteHyphen 241 = .ok (.return_, 1) := dc_177 (by decide +kernel)
theorem GX3_162 {w : eW} {d : Nat} {Y : eY} {pc : Nat} {ls : eL} {st : List Value} {h : eH} {Q : eO → eH → Prop} {a : Nat} {x : Nat} (hf : g_A 2 h a 28 = some x) (hd : decode Y.2.1 pc = .ok (.getfield 162, 3)) (hY : Y.1.cls = RX3) (kk : wp w d Y (pc + 3) ls (.ref x :: st) h Q) : wp w d Y pc ls (.ref a :: st) h Q := x_gA (ci := 2) (k := 28) hf hd rfl (by decide) (by rw [hY]; exact q1820) kk
theorem GX3_166 {w : eW} {d : Nat} {Y : eY} {pc : Nat} {ls : eL} {st : List Value} {h : eH} {Q : eO → eH → Prop} {a : Nat} {x : Nat} (hf : g_A 2 h a 29 = some x) (hd : decode Y.2.1 pc = .ok (.getfield 166, 3)) (hY : Y.1.cls = RX3) (kk : wp w d Y (pc + 3) ls (.ref x :: st) h Q) : wp w d Y pc ls (.ref a :: st) h Q := x_gA (ci := 2) (k := 29) hf hd rfl (by decide) (by rw [hY]; exact q1821) kk
theorem GX3_169 {w : eW} {d : Nat} {Y : eY} {pc : Nat} {ls : eL} {st : List Value} {h : eH} {Q : eO → eH → Prop} {a : Nat} {x : Nat} (hf : g_A 2 h a 32 = some x) (hd : decode Y.2.1 pc = .ok (.getfield 169, 3)) (hY : Y.1.cls = RX3) (kk : wp w d Y (pc + 3) ls (.ref x :: st) h Q) : wp w d Y pc ls (.ref a :: st) h Q := x_gA (ci := 2) (k := 32) hf hd rfl (by decide) (by rw [hY]; exact q1824) kk
theorem GX3_172 {w : eW} {d : Nat} {Y : eY} {pc : Nat} {ls : eL} {st : List Value} {h : eH} {Q : eO → eH → Prop} {a : Nat} {x : Nat} (hf : g_A 2 h a 33 = some x) (hd : decode Y.2.1 pc = .ok (.getfield 172, 3)) (hY : Y.1.cls = RX3) (kk : wp w d Y (pc + 3) ls (.ref x :: st) h Q) : wp w d Y pc ls (.ref a :: st) h Q := x_gA (ci := 2) (k := 33) hf hd rfl (by decide) (by rw [hY]; exact q1825) kk
theorem GX3_175 {w : eW} {d : Nat} {Y : eY} {pc : Nat} {ls : eL} {st : List Value} {h : eH} {Q : eO → eH → Prop} {a : Nat} {x : Nat} (hf : g_A 2 h a 34 = some x) (hd : decode Y.2.1 pc = .ok (.getfield 175, 3)) (hY : Y.1.cls = RX3) (kk : wp w d Y (pc + 3) ls (.ref x :: st) h Q) : wp w d Y pc ls (.ref a :: st) h Q := x_gA (ci := 2) (k := 34) hf hd rfl (by decide) (by rw [hY]; exact q1826) kk
theorem GX3_219 {w : eW} {d : Nat} {Y : eY} {pc : Nat} {ls : eL} {st : List Value} {h : eH} {Q : eO → eH → Prop} {a : Nat} {x : Int32} (hf : g_I 2 h a 30 = some x) (hd : decode Y.2.1 pc = .ok (.getfield 219, 3)) (hY : Y.1.cls = RX3) (kk : wp w d Y (pc + 3) ls (.int x :: st) h Q) : wp w d Y pc ls (.ref a :: st) h Q := x_gI (ci := 2) (k := 30) hf hd rfl (by decide) (by rw [hY]; exact q1822) kk
def fX3_noteHyphen_b215 (N : Nat)  (h : eH) : Option (Unit × eH) :=
  some ((), h)
theorem pX3_noteHyphen_b215 {w : eW} {d : Nat} (hd : 5 ≤ d + 1) {N : Nat}  {h : eH} {q} (hf : fX3_noteHyphen_b215 N h = some q) : wp w (d + 1) YX3_noteHyphen 215 [none, none, none, none, none, none] [] h (e_is (e_rn c_V q)) := by
  unfold fX3_noteHyphen_b215 at hf
  cases hf
  exact w_vret dX3_noteHyphen_215 rfl rfl
def fX3_noteHyphen_b241 (N : Nat)  (h : eH) : Option (Unit × eH) :=
  some ((), h)
theorem pX3_noteHyphen_b241 {w : eW} {d : Nat} (hd : 5 ≤ d + 1) {N : Nat}  {h : eH} {q} (hf : fX3_noteHyphen_b241 N h = some q) : wp w (d + 1) YX3_noteHyphen 241 [none, none, none, none, none, none] [] h (e_is (e_rn c_V q)) := by
  unfold fX3_noteHyphen_b241 at hf
  cases hf
  exact w_vret dX3_noteHyphen_241 rfl rfl
def fX3_noteHyphen_b240 (N : Nat) (s0 : Nat) (s1 : Int32) (s2 : Int32) (h : eH) : Option (Unit × eH) :=
  (q_V 100 h s0 s1 (.int s2)).bind fun h1 =>
  fX3_noteHyphen_b241 N h1
theorem pX3_noteHyphen_b240 {w : eW} {d : Nat} (hd : 5 ≤ d + 1) {N : Nat} {s0 : Nat} {s1 : Int32} {s2 : Int32} {h : eH} {q} (hf : fX3_noteHyphen_b240 N s0 s1 s2 h = some q) : wp w (d + 1) YX3_noteHyphen 240 [none, none, none, none, none, none] [.int s2, .int s1, .ref s0] h (e_is (e_rn c_V q)) := by
  unfold fX3_noteHyphen_b240 at hf
  obtain ⟨h1, b2, hf⟩ := Option.bind_eq_some_iff.mp hf
  refine x_qI b2 dX3_noteHyphen_240 ?_
  exact (pX3_noteHyphen_b241 hd hf).to trivial
def fX3_noteHyphen_b216 (N : Nat) (l0 : Nat) (l2 : Int32) (l5 : Int32) (h : eH) : Option (Unit × eH) :=
  (g_A 2 h l0 34).bind fun a1 =>
  (r_I 100 h a1 l2).bind fun x3 =>
  if ¬ x3 = 0 then
    fX3_noteHyphen_b241 N h
  else
    (g_A 2 h l0 34).bind fun a6 =>
    if l5 = 0 then
      fX3_noteHyphen_b240 N a6 l2 (2 : Int32) h
    else
      fX3_noteHyphen_b240 N a6 l2 (1 : Int32) h
theorem pX3_noteHyphen_b216 {w : eW} {d : Nat} (hd : 5 ≤ d + 1) {N : Nat} {l0 : Nat} {l2 : Int32} {l5 : Int32} {h : eH} {q} (hf : fX3_noteHyphen_b216 N l0 l2 l5 h = some q) : wp w (d + 1) YX3_noteHyphen 216 [some (.ref l0), none, some (.int l2), none, none, some (.int l5)] [] h (e_is (e_rn c_V q)) := by
  unfold fX3_noteHyphen_b216 at hf
  refine w_aload_n dX3_noteHyphen_216 rfl rfl ?_
  obtain ⟨a1, b2, hf⟩ := Option.bind_eq_some_iff.mp hf
  refine GX3_175 b2 dX3_noteHyphen_217 rfl ?_
  refine w_iload_n dX3_noteHyphen_220 rfl rfl ?_
  obtain ⟨x3, b4, hf⟩ := Option.bind_eq_some_iff.mp hf
  refine x_rI b4 dX3_noteHyphen_221 ?_
  refine w_if_ne 241 dX3_noteHyphen_222 (by decide) (fun c5 => ?_) (fun c5 => ?_)
  · replace hf := (if_pos (show ¬ x3 = 0 from c5)).symm.trans hf
    exact (pX3_noteHyphen_b241 hd hf).to trivial
  · replace hf := (if_neg (show ¬ (¬ x3 = 0) from (fun z => z c5))).symm.trans hf
    refine w_aload_n dX3_noteHyphen_225 rfl rfl ?_
    obtain ⟨a6, b7, hf⟩ := Option.bind_eq_some_iff.mp hf
    refine GX3_175 b7 dX3_noteHyphen_226 rfl ?_
    refine w_iload_n dX3_noteHyphen_229 rfl rfl ?_
    refine w_iload dX3_noteHyphen_230 rfl ?_
    refine w_if_eq 239 dX3_noteHyphen_232 (by decide) (fun c8 => ?_) (fun c8 => ?_)
    · replace hf := (if_pos (show l5 = 0 from c8)).symm.trans hf
      refine w_iconst dX3_noteHyphen_239 (v := 2) (by decide) ?_
      exact (pX3_noteHyphen_b240 hd hf).to trivial
    · replace hf := (if_neg (show ¬ (l5 = 0) from c8)).symm.trans hf
      refine w_iconst dX3_noteHyphen_235 (v := 1) (by decide) ?_
      refine w_goto 240 dX3_noteHyphen_236 (by decide) ?_
      exact (pX3_noteHyphen_b240 hd hf).to trivial
def fX3_noteHyphen_b170 (N : Nat) (l0 : Nat) (l2 : Int32) (s0 : Int32) (h : eH) : Option (Unit × eH) :=
  (g_A 2 h l0 32).bind fun a1 =>
  (g_A 2 h l0 33).bind fun a3 =>
  (fX3_ends N a1 l2 a3 l2 h).bind fun q5 =>
  if ¬ q5.1 = 0 then
    fX3_noteHyphen_b216 N l0 l2 q5.1 q5.2
  else
    if s0 = 0 then
      fX3_noteHyphen_b215 N q5.2
    else
      (g_A 2 q5.2 l0 32).bind fun a8 =>
      (g_A 2 q5.2 l0 33).bind fun a10 =>
      (fX3_ends N a8 (l2 + (1 : Int32)) a10 l2 q5.2).bind fun q12 =>
      if ¬ q12.1 = 0 then
        fX3_noteHyphen_b216 N l0 l2 q5.1 q12.2
      else
        fX3_noteHyphen_b215 N q12.2
theorem pX3_noteHyphen_b170 {w : eW} {d : Nat} (hd : 5 ≤ d + 1) {N : Nat} {l0 : Nat} {l2 : Int32} {s0 : Int32} {h : eH} {q} (hf : fX3_noteHyphen_b170 N l0 l2 s0 h = some q) : wp w (d + 1) YX3_noteHyphen 170 [some (.ref l0), none, some (.int l2), none, none, none] [.int s0] h (e_is (e_rn c_V q)) := by
  unfold fX3_noteHyphen_b170 at hf
  refine w_istore dX3_noteHyphen_170 (by decide) (ls' := [some (.ref l0), none, some (.int l2), none, some (.int s0), none]) rfl ?_
  refine w_aload_n dX3_noteHyphen_172 rfl rfl ?_
  obtain ⟨a1, b2, hf⟩ := Option.bind_eq_some_iff.mp hf
  refine GX3_169 b2 dX3_noteHyphen_173 rfl ?_
  refine w_iload_n dX3_noteHyphen_176 rfl rfl ?_
  refine w_aload_n dX3_noteHyphen_177 rfl rfl ?_
  obtain ⟨a3, b4, hf⟩ := Option.bind_eq_some_iff.mp hf
  refine GX3_172 b4 dX3_noteHyphen_178 rfl ?_
  refine w_iload_n dX3_noteHyphen_181 rfl rfl ?_
  refine x_cnI hf (e_stS (Yc := YX3_ends) (av := [.ref a1, .int l2, .ref a3, .int l2]) (st := []) dX3_noteHyphen_182 q3165 mX3_ends) mX3_ends.2.2.1 mX3_ends.2.2.2.2.1 (Nat.le_of_ble_eq_true rfl) (Nat.le_of_ble_eq_true rfl) (fun q hq => pX3_ends (by omega) hq) (fun q5 hf => ?_)
  refine w_istore dX3_noteHyphen_185 (by decide) (ls' := [some (.ref l0), none, some (.int l2), none, some (.int s0), some (.int q5.1)]) rfl ?_
  refine w_iload dX3_noteHyphen_187 rfl ?_
  refine w_if_ne 216 dX3_noteHyphen_189 (by decide) (fun c6 => ?_) (fun c6 => ?_)
  · replace hf := (if_pos (show ¬ q5.1 = 0 from c6)).symm.trans hf
    exact (pX3_noteHyphen_b216 hd hf).to ⟨rfl, rfl, rfl, trivial⟩
  · replace hf := (if_neg (show ¬ (¬ q5.1 = 0) from (fun z => z c6))).symm.trans hf
    refine w_iload dX3_noteHyphen_192 rfl ?_
    refine w_if_eq 215 dX3_noteHyphen_194 (by decide) (fun c7 => ?_) (fun c7 => ?_)
    · replace hf := (if_pos (show s0 = 0 from c7)).symm.trans hf
      exact (pX3_noteHyphen_b215 hd hf).to trivial
    · replace hf := (if_neg (show ¬ (s0 = 0) from c7)).symm.trans hf
      refine w_aload_n dX3_noteHyphen_197 rfl rfl ?_
      obtain ⟨a8, b9, hf⟩ := Option.bind_eq_some_iff.mp hf
      refine GX3_169 b9 dX3_noteHyphen_198 rfl ?_
      refine w_iload_n dX3_noteHyphen_201 rfl rfl ?_
      refine w_iconst dX3_noteHyphen_202 (v := 1) (by decide) ?_
      refine w_iadd dX3_noteHyphen_203 ?_
      refine w_aload_n dX3_noteHyphen_204 rfl rfl ?_
      obtain ⟨a10, b11, hf⟩ := Option.bind_eq_some_iff.mp hf
      refine GX3_172 b11 dX3_noteHyphen_205 rfl ?_
      refine w_iload_n dX3_noteHyphen_208 rfl rfl ?_
      refine x_cnI hf (e_stS (Yc := YX3_ends) (av := [.ref a8, .int (l2 + (1 : Int32)), .ref a10, .int l2]) (st := []) dX3_noteHyphen_209 q3165 mX3_ends) mX3_ends.2.2.1 mX3_ends.2.2.2.2.1 (Nat.le_of_ble_eq_true rfl) (Nat.le_of_ble_eq_true rfl) (fun q hq => pX3_ends (by omega) hq) (fun q12 hf => ?_)
      refine w_if_ne 216 dX3_noteHyphen_212 (by decide) (fun c13 => ?_) (fun c13 => ?_)
      · replace hf := (if_pos (show ¬ q12.1 = 0 from c13)).symm.trans hf
        exact (pX3_noteHyphen_b216 hd hf).to ⟨rfl, rfl, rfl, trivial⟩
      · replace hf := (if_neg (show ¬ (¬ q12.1 = 0) from (fun z => z c13))).symm.trans hf
        exact (pX3_noteHyphen_b215 hd hf).to trivial
def fX3_noteHyphen_b169 (N : Nat) (l0 : Nat) (l2 : Int32) (h : eH) : Option (Unit × eH) :=
  fX3_noteHyphen_b170 N l0 l2 (0 : Int32) h
theorem pX3_noteHyphen_b169 {w : eW} {d : Nat} (hd : 5 ≤ d + 1) {N : Nat} {l0 : Nat} {l2 : Int32} {h : eH} {q} (hf : fX3_noteHyphen_b169 N l0 l2 h = some q) : wp w (d + 1) YX3_noteHyphen 169 [some (.ref l0), none, some (.int l2), none, none, none] [] h (e_is (e_rn c_V q)) := by
  unfold fX3_noteHyphen_b169 at hf
  refine w_iconst dX3_noteHyphen_169 (v := 0) (by decide) ?_
  exact (pX3_noteHyphen_b170 hd hf).to ⟨rfl, rfl, trivial⟩
def fX3_noteHyphen_b137 (N : Nat) (l0 : Nat) (l2 : Int32) (l3 : Int32) (h : eH) : Option (Unit × eH) :=
  if ¬ l3 = 0 then
    (g_A 2 h l0 32).bind fun a2 =>
    (g_I 33 h a2 1).bind fun x4 =>
    if x4 ≤ l2 then
      fX3_noteHyphen_b169 N l0 l2 h
    else
      (g_A 2 h l0 32).bind fun a7 =>
      (k_ok 33 h a7).bind fun _ =>
      (fX34_kind a7 l2 h).bind fun q10 =>
      if ¬ q10.1 = (3 : Int32) then
        fX3_noteHyphen_b169 N l0 l2 q10.2
      else
        fX3_noteHyphen_b170 N l0 l2 (1 : Int32) q10.2
  else
    some ((), h)
theorem pX3_noteHyphen_b137 {w : eW} {d : Nat} (hd : 5 ≤ d + 1) {N : Nat} {l0 : Nat} {l2 : Int32} {l3 : Int32} {h : eH} {q} (hf : fX3_noteHyphen_b137 N l0 l2 l3 h = some q) : wp w (d + 1) YX3_noteHyphen 137 [some (.ref l0), none, some (.int l2), some (.int l3), none, none] [] h (e_is (e_rn c_V q)) := by
  unfold fX3_noteHyphen_b137 at hf
  refine w_iload_n dX3_noteHyphen_137 rfl rfl ?_
  refine w_if_ne 142 dX3_noteHyphen_138 (by decide) (fun c1 => ?_) (fun c1 => ?_)
  · replace hf := (if_pos (show ¬ l3 = 0 from c1)).symm.trans hf
    refine w_iload_n dX3_noteHyphen_142 rfl rfl ?_
    refine w_aload_n dX3_noteHyphen_143 rfl rfl ?_
    obtain ⟨a2, b3, hf⟩ := Option.bind_eq_some_iff.mp hf
    refine GX3_169 b3 dX3_noteHyphen_144 rfl ?_
    obtain ⟨x4, b5, hf⟩ := Option.bind_eq_some_iff.mp hf
    refine GX3_210 b5 dX3_noteHyphen_147 rfl ?_
    refine w_icmp_ge 169 dX3_noteHyphen_150 (by decide) (fun c6 => ?_) (fun c6 => ?_)
    · replace hf := (if_pos (show x4 ≤ l2 from c6)).symm.trans hf
      exact (pX3_noteHyphen_b169 hd hf).to ⟨rfl, rfl, trivial⟩
    · replace hf := (if_neg (show ¬ (x4 ≤ l2) from c6)).symm.trans hf
      refine w_aload_n dX3_noteHyphen_153 rfl rfl ?_
      obtain ⟨a7, b8, hf⟩ := Option.bind_eq_some_iff.mp hf
      refine GX3_169 b8 dX3_noteHyphen_154 rfl ?_
      refine w_iload_n dX3_noteHyphen_157 rfl rfl ?_
      obtain ⟨_, b9, hf⟩ := Option.bind_eq_some_iff.mp hf
      refine x_cnI hf (e_stV (Yc := YX34_kind) (ci := 33) (av := [.int l2]) (st := []) dX3_noteHyphen_158 q3157 mX34_kind rfl (k_ok_some b9).1 (k_ok_some b9).2) mX34_kind.2.2.1 mX34_kind.2.2.2.2.1 (Nat.le_of_ble_eq_true rfl) (Nat.le_of_ble_eq_true rfl) (fun q hq => pX34_kind (by omega) hq) (fun q10 hf => ?_)
      refine w_iconst dX3_noteHyphen_161 (v := 3) (by decide) ?_
      refine w_icmp_ne 169 dX3_noteHyphen_162 (by decide) (fun c11 => ?_) (fun c11 => ?_)
      · replace hf := (if_pos (show ¬ q10.1 = (3 : Int32) from c11)).symm.trans hf
        exact (pX3_noteHyphen_b169 hd hf).to ⟨rfl, rfl, trivial⟩
      · replace hf := (if_neg (show ¬ (¬ q10.1 = (3 : Int32)) from (fun z => z c11))).symm.trans hf
        refine w_iconst dX3_noteHyphen_165 (v := 1) (by decide) ?_
        refine w_goto 170 dX3_noteHyphen_166 (by decide) ?_
        exact (pX3_noteHyphen_b170 hd hf).to ⟨rfl, rfl, trivial⟩
  · replace hf := (if_neg (show ¬ (¬ l3 = 0) from (fun z => z c1))).symm.trans hf
    cases hf
    exact w_vret dX3_noteHyphen_141 rfl rfl
def fX3_noteHyphen_b105 (N : Nat) : Nat → Nat → Int32 → Int32 → Int32 → eH → Option (Unit × eH)
  | 0, _, _, _, _, _ => none
  | n + 1, l0, l2, l3, l4, h =>
    if l3 = 0 then
      fX3_noteHyphen_b137 N l0 l2 l3 h
    else
      if l2 ≤ l4 then
        fX3_noteHyphen_b137 N l0 l2 l3 h
      else
        (g_A 2 h l0 32).bind fun a3 =>
        (g_A 2 h l0 33).bind fun a5 =>
        (fX3_areSame a3 l4 a5 l4 h).bind fun q7 =>
        fX3_noteHyphen_b105 N n l0 l2 q7.1 (l4 + (1 : Int32)) q7.2
theorem pX3_noteHyphen_b105 {w : eW} {d : Nat} (hd : 5 ≤ d + 1) {N : Nat} : ∀ (n : Nat) l0 l2 l3 l4 h q, fX3_noteHyphen_b105 N n l0 l2 l3 l4 h = some q → wp w (d + 1) YX3_noteHyphen 105 [some (.ref l0), none, some (.int l2), some (.int l3), some (.int l4), none] [] h (e_is (e_rn c_V q)) := by
  intro n
  induction n with
  | zero => intro l0 l2 l3 l4 h q hf; simp [fX3_noteHyphen_b105] at hf
  | succ n ih =>
    intro l0 l2 l3 l4 h q hf
    rw [fX3_noteHyphen_b105] at hf
    refine w_iload_n dX3_noteHyphen_105 rfl rfl ?_
    refine w_if_eq 137 dX3_noteHyphen_106 (by decide) (fun c1 => ?_) (fun c1 => ?_)
    · replace hf := (if_pos (show l3 = 0 from c1)).symm.trans hf
      exact (pX3_noteHyphen_b137 hd hf).to ⟨rfl, rfl, rfl, trivial⟩
    · replace hf := (if_neg (show ¬ (l3 = 0) from c1)).symm.trans hf
      refine w_iload dX3_noteHyphen_109 rfl ?_
      refine w_iload_n dX3_noteHyphen_111 rfl rfl ?_
      refine w_icmp_ge 137 dX3_noteHyphen_112 (by decide) (fun c2 => ?_) (fun c2 => ?_)
      · replace hf := (if_pos (show l2 ≤ l4 from c2)).symm.trans hf
        exact (pX3_noteHyphen_b137 hd hf).to ⟨rfl, rfl, rfl, trivial⟩
      · replace hf := (if_neg (show ¬ (l2 ≤ l4) from c2)).symm.trans hf
        refine w_aload_n dX3_noteHyphen_115 rfl rfl ?_
        obtain ⟨a3, b4, hf⟩ := Option.bind_eq_some_iff.mp hf
        refine GX3_169 b4 dX3_noteHyphen_116 rfl ?_
        refine w_iload dX3_noteHyphen_119 rfl ?_
        refine w_aload_n dX3_noteHyphen_121 rfl rfl ?_
        obtain ⟨a5, b6, hf⟩ := Option.bind_eq_some_iff.mp hf
        refine GX3_172 b6 dX3_noteHyphen_122 rfl ?_
        refine w_iload dX3_noteHyphen_125 rfl ?_
        refine x_cnI hf (e_stS (Yc := YX3_areSame) (av := [.ref a3, .int l4, .ref a5, .int l4]) (st := []) dX3_noteHyphen_127 q3154 mX3_areSame) mX3_areSame.2.2.1 mX3_areSame.2.2.2.2.1 (Nat.le_of_ble_eq_true rfl) (Nat.le_of_ble_eq_true rfl) (fun q hq => pX3_areSame (by omega) hq) (fun q7 hf => ?_)
        refine w_istore_n dX3_noteHyphen_130 rfl (by decide) (ls' := [some (.ref l0), none, some (.int l2), some (.int q7.1), some (.int l4), none]) rfl ?_
        refine w_iinc dX3_noteHyphen_131 (v := (l4 + (1 : Int32))) rfl rfl (by decide) (ls' := [some (.ref l0), none, some (.int l2), some (.int q7.1), some (.int (l4 + (1 : Int32))), none]) rfl ?_
        refine w_goto 105 dX3_noteHyphen_134 (by decide) ?_
        exact (ih _ _ _ _ _ _ hf).to ⟨rfl, rfl, rfl, rfl, trivial⟩
def fX3_noteHyphen_b101 (N : Nat) (l0 : Nat) (l2 : Int32) (s0 : Int32) (h : eH) : Option (Unit × eH) :=
  fX3_noteHyphen_b105 N N l0 l2 s0 (0 : Int32) h
theorem pX3_noteHyphen_b101 {w : eW} {d : Nat} (hd : 5 ≤ d + 1) {N : Nat} {l0 : Nat} {l2 : Int32} {s0 : Int32} {h : eH} {q} (hf : fX3_noteHyphen_b101 N l0 l2 s0 h = some q) : wp w (d + 1) YX3_noteHyphen 101 [some (.ref l0), none, some (.int l2), none, none, none] [.int s0] h (e_is (e_rn c_V q)) := by
  unfold fX3_noteHyphen_b101 at hf
  refine w_istore_n dX3_noteHyphen_101 rfl (by decide) (ls' := [some (.ref l0), none, some (.int l2), some (.int s0), none, none]) rfl ?_
  refine w_iconst dX3_noteHyphen_102 (v := 0) (by decide) ?_
  refine w_istore dX3_noteHyphen_103 (by decide) (ls' := [some (.ref l0), none, some (.int l2), some (.int s0), some (.int (0 : Int32)), none]) rfl ?_
  exact (pX3_noteHyphen_b105 hd N _ _ _ _ _ _ hf).to ⟨rfl, rfl, rfl, rfl, trivial⟩
def fX3_noteHyphen_b35 (N : Nat) : Nat → Nat → Int32 → Int32 → Int32 → eH → Option (Unit × eH)
  | 0, _, _, _, _, _ => none
  | n + 1, l0, l1, l2, l3, h =>
    (g_I 2 h l0 30).bind fun x1 =>
    if x1 ≤ l3 then
      (g_A 2 h l0 29).bind fun a4 =>
      (g_I 2 h l0 30).bind fun x6 =>
      (g_A 2 h l0 33).bind fun a8 =>
      (k_ok 2 h l0).bind fun _ =>
      (fX3_setRow N l0 a4 (x6 - l1) a8 h).bind fun q11 =>
      if ¬ q11.1 = 0 then
        (g_A 2 q11.2 l0 32).bind fun a13 =>
        (g_I 33 q11.2 a13 1).bind fun x15 =>
        if x15 < l2 then
          fX3_noteHyphen_b101 N l0 l2 (0 : Int32) q11.2
        else
          fX3_noteHyphen_b101 N l0 l2 (1 : Int32) q11.2
      else
        some ((), q11.2)
    else
      (g_A 2 h l0 29).bind fun a18 =>
      (g_A 2 h l0 28).bind fun a20 =>
      (r_I 102 h a20 l3).bind fun x22 =>
      (q_V 102 h a18 (l3 - l1) (.int (x22).toInt8.toInt32)).bind fun h24 =>
      fX3_noteHyphen_b35 N n l0 l1 l2 (l3 + (1 : Int32)) h24
theorem pX3_noteHyphen_b35 {w : eW} {d : Nat} (hd : 5 ≤ d + 1) {N : Nat} : ∀ (n : Nat) l0 l1 l2 l3 h q, fX3_noteHyphen_b35 N n l0 l1 l2 l3 h = some q → wp w (d + 1) YX3_noteHyphen 35 [some (.ref l0), some (.int l1), some (.int l2), some (.int l3), none, none] [] h (e_is (e_rn c_V q)) := by
  intro n
  induction n with
  | zero => intro l0 l1 l2 l3 h q hf; simp [fX3_noteHyphen_b35] at hf
  | succ n ih =>
    intro l0 l1 l2 l3 h q hf
    rw [fX3_noteHyphen_b35] at hf
    refine w_iload_n dX3_noteHyphen_35 rfl rfl ?_
    refine w_aload_n dX3_noteHyphen_36 rfl rfl ?_
    obtain ⟨x1, b2, hf⟩ := Option.bind_eq_some_iff.mp hf
    refine GX3_219 b2 dX3_noteHyphen_37 rfl ?_
    refine w_icmp_ge 63 dX3_noteHyphen_40 (by decide) (fun c3 => ?_) (fun c3 => ?_)
    · replace hf := (if_pos (show x1 ≤ l3 from c3)).symm.trans hf
      refine w_aload_n dX3_noteHyphen_63 rfl rfl ?_
      refine w_aload_n dX3_noteHyphen_64 rfl rfl ?_
      obtain ⟨a4, b5, hf⟩ := Option.bind_eq_some_iff.mp hf
      refine GX3_166 b5 dX3_noteHyphen_65 rfl ?_
      refine w_aload_n dX3_noteHyphen_68 rfl rfl ?_
      obtain ⟨x6, b7, hf⟩ := Option.bind_eq_some_iff.mp hf
      refine GX3_219 b7 dX3_noteHyphen_69 rfl ?_
      refine w_iload_n dX3_noteHyphen_72 rfl rfl ?_
      refine w_isub dX3_noteHyphen_73 ?_
      refine w_aload_n dX3_noteHyphen_74 rfl rfl ?_
      obtain ⟨a8, b9, hf⟩ := Option.bind_eq_some_iff.mp hf
      refine GX3_172 b9 dX3_noteHyphen_75 rfl ?_
      obtain ⟨_, b10, hf⟩ := Option.bind_eq_some_iff.mp hf
      refine x_cnI hf (e_stV (Yc := YX3_setRow) (ci := 2) (av := [.ref a4, .int (x6 - l1), .ref a8]) (st := []) dX3_noteHyphen_78 q2796 mX3_setRow rfl (k_ok_some b10).1 (k_ok_some b10).2) mX3_setRow.2.2.1 mX3_setRow.2.2.2.2.1 (Nat.le_of_ble_eq_true rfl) (Nat.le_of_ble_eq_true rfl) (fun q hq => pX3_setRow (by omega) hq) (fun q11 hf => ?_)
      refine w_if_ne 85 dX3_noteHyphen_81 (by decide) (fun c12 => ?_) (fun c12 => ?_)
      · replace hf := (if_pos (show ¬ q11.1 = 0 from c12)).symm.trans hf
        refine w_iload_n dX3_noteHyphen_85 rfl rfl ?_
        refine w_aload_n dX3_noteHyphen_86 rfl rfl ?_
        obtain ⟨a13, b14, hf⟩ := Option.bind_eq_some_iff.mp hf
        refine GX3_169 b14 dX3_noteHyphen_87 rfl ?_
        obtain ⟨x15, b16, hf⟩ := Option.bind_eq_some_iff.mp hf
        refine GX3_210 b16 dX3_noteHyphen_90 rfl ?_
        refine w_icmp_gt 100 dX3_noteHyphen_93 (by decide) (fun c17 => ?_) (fun c17 => ?_)
        · replace hf := (if_pos (show x15 < l2 from c17)).symm.trans hf
          refine w_iconst dX3_noteHyphen_100 (v := 0) (by decide) ?_
          exact (pX3_noteHyphen_b101 hd hf).to ⟨rfl, rfl, trivial⟩
        · replace hf := (if_neg (show ¬ (x15 < l2) from c17)).symm.trans hf
          refine w_iconst dX3_noteHyphen_96 (v := 1) (by decide) ?_
          refine w_goto 101 dX3_noteHyphen_97 (by decide) ?_
          exact (pX3_noteHyphen_b101 hd hf).to ⟨rfl, rfl, trivial⟩
      · replace hf := (if_neg (show ¬ (¬ q11.1 = 0) from (fun z => z c12))).symm.trans hf
        cases hf
        exact w_vret dX3_noteHyphen_84 rfl rfl
    · replace hf := (if_neg (show ¬ (x1 ≤ l3) from c3)).symm.trans hf
      refine w_aload_n dX3_noteHyphen_43 rfl rfl ?_
      obtain ⟨a18, b19, hf⟩ := Option.bind_eq_some_iff.mp hf
      refine GX3_166 b19 dX3_noteHyphen_44 rfl ?_
      refine w_iload_n dX3_noteHyphen_47 rfl rfl ?_
      refine w_iload_n dX3_noteHyphen_48 rfl rfl ?_
      refine w_isub dX3_noteHyphen_49 ?_
      refine w_aload_n dX3_noteHyphen_50 rfl rfl ?_
      obtain ⟨a20, b21, hf⟩ := Option.bind_eq_some_iff.mp hf
      refine GX3_162 b21 dX3_noteHyphen_51 rfl ?_
      refine w_iload_n dX3_noteHyphen_54 rfl rfl ?_
      obtain ⟨x22, b23, hf⟩ := Option.bind_eq_some_iff.mp hf
      refine x_rB b23 dX3_noteHyphen_55 ?_
      obtain ⟨h24, b25, hf⟩ := Option.bind_eq_some_iff.mp hf
      refine x_qB b25 dX3_noteHyphen_56 ?_
      refine w_iinc dX3_noteHyphen_57 (v := (l3 + (1 : Int32))) rfl rfl (by decide) (ls' := [some (.ref l0), some (.int l1), some (.int l2), some (.int (l3 + (1 : Int32))), none, none]) rfl ?_
      refine w_goto 35 dX3_noteHyphen_60 (by decide) ?_
      exact (ih _ _ _ _ _ _ hf).to ⟨rfl, rfl, rfl, rfl, trivial⟩
def fX3_noteHyphen (N : Nat) (this : Nat) (p0 : Int32) (h : eH) : Option (Unit × eH) :=
  (g_A 2 h this 33).bind fun a1 =>
  (p_V 33 h a1 1 (.int (0 : Int32))).bind fun h3 =>
  (g_A 2 h3 this 28).bind fun a5 =>
  (g_A 2 h3 this 33).bind fun a7 =>
  (k_ok 2 h3 this).bind fun _ =>
  (fX3_setRow N this a5 p0 a7 h3).bind fun q10 =>
  if ¬ q10.1 = 0 then
    (g_A 2 q10.2 this 33).bind fun a12 =>
    (g_I 33 q10.2 a12 1).bind fun x14 =>
    fX3_noteHyphen_b35 N N this p0 x14 p0 q10.2
  else
    some ((), q10.2)
theorem pX3_noteHyphen {w : eW} {d : Nat} (hd : 5 ≤ d) {N : Nat} {this : Nat} {p0 : Int32} {h : eH} {q} (hf : fX3_noteHyphen N this p0 h = some q) : wm w d YX3_noteHyphen [.ref this, .int p0] h (e_is (e_rn c_V q)) := by
  obtain ⟨d, rfl⟩ : ∃ e, d = e + 1 := ⟨d - 1, by omega⟩
  show wp w (d + 1) YX3_noteHyphen 0 [some (.ref this), some (.int p0), none, none, none, none] [] h _
  unfold fX3_noteHyphen at hf
  refine w_aload_n dX3_noteHyphen_0 rfl rfl ?_
  obtain ⟨a1, b2, hf⟩ := Option.bind_eq_some_iff.mp hf
  refine GX3_172 b2 dX3_noteHyphen_1 rfl ?_
  refine w_iconst dX3_noteHyphen_4 (v := 0) (by decide) ?_
  obtain ⟨h3, b4, hf⟩ := Option.bind_eq_some_iff.mp hf
  refine SX3_210 b4 dX3_noteHyphen_5 rfl ?_
  refine w_aload_n dX3_noteHyphen_8 rfl rfl ?_
  refine w_aload_n dX3_noteHyphen_9 rfl rfl ?_
  obtain ⟨a5, b6, hf⟩ := Option.bind_eq_some_iff.mp hf
  refine GX3_162 b6 dX3_noteHyphen_10 rfl ?_
  refine w_iload_n dX3_noteHyphen_13 rfl rfl ?_
  refine w_aload_n dX3_noteHyphen_14 rfl rfl ?_
  obtain ⟨a7, b8, hf⟩ := Option.bind_eq_some_iff.mp hf
  refine GX3_172 b8 dX3_noteHyphen_15 rfl ?_
  obtain ⟨_, b9, hf⟩ := Option.bind_eq_some_iff.mp hf
  refine x_cnI hf (e_stV (Yc := YX3_setRow) (ci := 2) (av := [.ref a5, .int p0, .ref a7]) (st := []) dX3_noteHyphen_18 q2796 mX3_setRow rfl (k_ok_some b9).1 (k_ok_some b9).2) mX3_setRow.2.2.1 mX3_setRow.2.2.2.2.1 (Nat.le_of_ble_eq_true rfl) (Nat.le_of_ble_eq_true rfl) (fun q hq => pX3_setRow (by omega) hq) (fun q10 hf => ?_)
  refine w_if_ne 25 dX3_noteHyphen_21 (by decide) (fun c11 => ?_) (fun c11 => ?_)
  · replace hf := (if_pos (show ¬ q10.1 = 0 from c11)).symm.trans hf
    refine w_aload_n dX3_noteHyphen_25 rfl rfl ?_
    obtain ⟨a12, b13, hf⟩ := Option.bind_eq_some_iff.mp hf
    refine GX3_172 b13 dX3_noteHyphen_26 rfl ?_
    obtain ⟨x14, b15, hf⟩ := Option.bind_eq_some_iff.mp hf
    refine GX3_210 b15 dX3_noteHyphen_29 rfl ?_
    refine w_istore_n dX3_noteHyphen_32 rfl (by decide) (ls' := [some (.ref this), some (.int p0), some (.int x14), none, none, none]) rfl ?_
    refine w_iload_n dX3_noteHyphen_33 rfl rfl ?_
    refine w_istore_n dX3_noteHyphen_34 rfl (by decide) (ls' := [some (.ref this), some (.int p0), some (.int x14), some (.int p0), none, none]) rfl ?_
    exact (pX3_noteHyphen_b35 hd N _ _ _ _ _ _ hf).to ⟨rfl, rfl, rfl, rfl, trivial⟩
  · replace hf := (if_neg (show ¬ (¬ q10.1 = 0) from (fun z => z c11))).symm.trans hf
    cases hf
    exact w_vret dX3_noteHyphen_24 rfl rfl
abbrev cX3_findHyphens : ByteArray := prog_26_method_28_code
def yX3_findHyphens : MethodName := ⟨RX3, "findHyphens", "()V"⟩
def YX3_findHyphens : eY := (yX3_findHyphens, cX3_findHyphens, 3, none, [])
theorem mX3_findHyphens : e_mv YX3_findHyphens RX3 0 := ⟨q2849, qs105, q2850, by decide, by decide +kernel, (e_sig (by decide +kernel))⟩
theorem dX3_findHyphens_0 : decode cX3_findHyphens 0 = .ok (.aload_n 0, 1) := dc_42 (by decide +kernel)
theorem dX3_findHyphens_1 : decode cX3_findHyphens 1 = .ok (.getfield 175, 3) := dc_180 (a := 0) (b := 175) (n := 175) (by decide +kernel)
theorem dX3_findHyphens_4 : decode cX3_findHyphens 4 = .ok (.iconst 0, 1) := dc_3 (by decide +kernel)
theorem dX3_findHyphens_5 : decode cX3_findHyphens 5 = .ok (.aload_n 0, 1) := dc_42 (by decide +kernel)
theorem dX3_findHyphens_6 : decode cX3_findHyphens 6 = .ok (.getfield 169, 3) := dc_180 (a := 0) (b := 169) (n := 169) (by decide +kernel)
theorem dX3_findHyphens_9 : decode cX3_findHyphens 9 = .ok (.getfield 210, 3) := dc_180 (a := 0) (b := 210) (n := 210) (by decide +kernel)
theorem dX3_findHyphens_12 : decode cX3_findHyphens 12 = .ok (.iconst 1, 1) := dc_4 (by decide +kernel)
theorem dX3_findHyphens_13 : decode cX3_findHyphens 13 = .ok (.iadd, 1) := dc_96 (by decide +kernel)
theorem dX3_findHyphens_14 : decode cX3_findHyphens 14 = .ok (.iconst 0, 1) := dc_3 (by decide +kernel)
theorem dX3_findHyphens_15 : decode cX3_findHyphens 15 = .ok (.invokestatic 482, 3) := dc_184 (a := 1) (b := 226) (n := 482) (by decide +kernel)
theorem dX3_findHyphens_18 : decode cX3_findHyphens 18 = .ok (.aload_n 0, 1) := dc_42 (by decide +kernel)
theorem dX3_findHyphens_19 : decode cX3_findHyphens 19 = .ok (.getfield 136, 3) := dc_180 (a := 0) (b := 136) (n := 136) (by decide +kernel)
theorem dX3_findHyphens_22 : decode cX3_findHyphens 22 = .ok (.aload_n 0, 1) := dc_42 (by decide +kernel)
theorem dX3_findHyphens_23 : decode cX3_findHyphens 23 = .ok (.getfield 211, 3) := dc_180 (a := 0) (b := 211) (n := 211) (by decide +kernel)
theorem dX3_findHyphens_26 : decode cX3_findHyphens 26 = .ok (.iaload, 1) := dc_46 (by decide +kernel)
theorem dX3_findHyphens_27 : decode cX3_findHyphens 27 = .ok (.iconst 2, 1) := dc_5 (by decide +kernel)
theorem dX3_findHyphens_28 : decode cX3_findHyphens 28 = .ok (.if_icmp .ne 36, 3) := dc_160 (a := 0) (b := 36) (v := 36) (by decide +kernel)
theorem dX3_findHyphens_31 : decode cX3_findHyphens 31 = .ok (.aload_n 0, 1) := dc_42 (by decide +kernel)
theorem dX3_findHyphens_32 : decode cX3_findHyphens 32 = .ok (.getfield 219, 3) := dc_180 (a := 0) (b := 219) (n := 219) (by decide +kernel)
theorem dX3_findHyphens_35 : decode cX3_findHyphens 35 = .ok (.bipush 63, 2) := dc_16 (a := 63) (v := 63) (by decide +kernel)
theorem dX3_findHyphens_37 : decode cX3_findHyphens 37 = .ok (.if_icmp .gt 27, 3) := dc_163 (a := 0) (b := 27) (v := 27) (by decide +kernel)
theorem dX3_findHyphens_40 : decode cX3_findHyphens 40 = .ok (.aload_n 0, 1) := dc_42 (by decide +kernel)
theorem dX3_findHyphens_41 : decode cX3_findHyphens 41 = .ok (.getfield 23, 3) := dc_180 (a := 0) (b := 23) (n := 23) (by decide +kernel)
theorem dX3_findHyphens_44 : decode cX3_findHyphens 44 = .ok (.getfield 448, 3) := dc_180 (a := 1) (b := 192) (n := 448) (by decide +kernel)
theorem dX3_findHyphens_47 : decode cX3_findHyphens 47 = .ok (.aload_n 0, 1) := dc_42 (by decide +kernel)
theorem dX3_findHyphens_48 : decode cX3_findHyphens 48 = .ok (.getfield 457, 3) := dc_180 (a := 1) (b := 201) (n := 457) (by decide +kernel)
theorem dX3_findHyphens_51 : decode cX3_findHyphens 51 = .ok (.aaload, 1) := dc_50 (by decide +kernel)
theorem dX3_findHyphens_52 : decode cX3_findHyphens 52 = .ok (.bipush 45, 2) := dc_16 (a := 45) (v := 45) (by decide +kernel)
theorem dX3_findHyphens_54 : decode cX3_findHyphens 54 = .ok (.invokevirtual 451, 3) := dc_182 (a := 1) (b := 195) (n := 451) (by decide +kernel)
theorem dX3_findHyphens_57 : decode cX3_findHyphens 57 = .ok (.ifCond .eq 7, 3) := dc_153 (a := 0) (b := 7) (v := 7) (by decide +kernel)
theorem dX3_findHyphens_60 : decode cX3_findHyphens 60 = .ok (.iconst 1, 1) := dc_4 (by decide +kernel)
theorem dX3_findHyphens_61 : decode cX3_findHyphens 61 = .ok (.goto 4, 3) := dc_167 (a := 0) (b := 4) (v := 4) (by decide +kernel)
theorem dX3_findHyphens_64 : decode cX3_findHyphens 64 = .ok (.iconst 0, 1) := dc_3 (by decide +kernel)
theorem dX3_findHyphens_65 : decode cX3_findHyphens 65 = .ok (.istore_n 1, 1) := dc_60 (by decide +kernel)
theorem dX3_findHyphens_66 : decode cX3_findHyphens 66 = .ok (.iconst 0, 1) := dc_3 (by decide +kernel)
theorem dX3_findHyphens_67 : decode cX3_findHyphens 67 = .ok (.istore_n 2, 1) := dc_61 (by decide +kernel)
theorem dX3_findHyphens_68 : decode cX3_findHyphens 68 = .ok (.iload_n 2, 1) := dc_28 (by decide +kernel)
theorem dX3_findHyphens_69 : decode cX3_findHyphens 69 = .ok (.aload_n 0, 1) := dc_42 (by decide +kernel)
theorem dX3_findHyphens_70 : decode cX3_findHyphens 70 = .ok (.getfield 219, 3) := dc_180 (a := 0) (b := 219) (n := 219) (by decide +kernel)
theorem dX3_findHyphens_73 : decode cX3_findHyphens 73 = .ok (.if_icmp .ge 29, 3) := dc_162 (a := 0) (b := 29) (v := 29) (by decide +kernel)
theorem dX3_findHyphens_76 : decode cX3_findHyphens 76 = .ok (.iload_n 1, 1) := dc_27 (by decide +kernel)
theorem dX3_findHyphens_77 : decode cX3_findHyphens 77 = .ok (.aload_n 0, 1) := dc_42 (by decide +kernel)
theorem dX3_findHyphens_78 : decode cX3_findHyphens 78 = .ok (.getfield 162, 3) := dc_180 (a := 0) (b := 162) (n := 162) (by decide +kernel)
theorem dX3_findHyphens_81 : decode cX3_findHyphens 81 = .ok (.iload_n 2, 1) := dc_28 (by decide +kernel)
theorem dX3_findHyphens_82 : decode cX3_findHyphens 82 = .ok (.baload, 1) := dc_51 (by decide +kernel)
theorem dX3_findHyphens_83 : decode cX3_findHyphens 83 = .ok (.invokestatic 485, 3) := dc_184 (a := 1) (b := 229) (n := 485) (by decide +kernel)
theorem dX3_findHyphens_86 : decode cX3_findHyphens 86 = .ok (.ifCond .le 7, 3) := dc_158 (a := 0) (b := 7) (v := 7) (by decide +kernel)
theorem dX3_findHyphens_89 : decode cX3_findHyphens 89 = .ok (.iconst 1, 1) := dc_4 (by decide +kernel)
theorem dX3_findHyphens_90 : decode cX3_findHyphens 90 = .ok (.goto 4, 3) := dc_167 (a := 0) (b := 4) (v := 4) (by decide +kernel)
theorem dX3_findHyphens_93 : decode cX3_findHyphens 93 = .ok (.iconst 0, 1) := dc_3 (by decide +kernel)
theorem dX3_findHyphens_94 : decode cX3_findHyphens 94 = .ok (.iand, 1) := dc_126 (by decide +kernel)
theorem dX3_findHyphens_95 : decode cX3_findHyphens 95 = .ok (.istore_n 1, 1) := dc_60 (by decide +kernel)
theorem dX3_findHyphens_96 : decode cX3_findHyphens 96 = .ok (.iinc 2 1, 3) := dc_132 (a := 2) (b := 1) (v := 1) (by decide +kernel)
theorem dX3_findHyphens_99 : decode cX3_findHyphens 99 = .ok (.goto (-31), 3) := dc_167 (a := 255) (b := 225) (v := -31) (by decide +kernel)
theorem dX3_findHyphens_102 : decode cX3_findHyphens 102 = .ok (.iload_n 1, 1) := dc_27 (by decide +kernel)
theorem dX3_findHyphens_103 : decode cX3_findHyphens 103 = .ok (.ifCond .ne 4, 3) := dc_154 (a := 0) (b := 4) (v := 4) (by decide +kernel)
theorem dX3_findHyphens_106 : decode cX3_findHyphens 106 = .ok (.return_, 1) := dc_177 (by decide +kernel)
theorem dX3_findHyphens_107 : decode cX3_findHyphens 107 = .ok (.aload_n 0, 1) := dc_42 (by decide +kernel)
theorem dX3_findHyphens_108 : decode cX3_findHyphens 108 = .ok (.getfield 57, 3) := dc_180 (a := 0) (b := 57) (n := 57) (by decide +kernel)
theorem dX3_findHyphens_111 : decode cX3_findHyphens 111 = .ok (.aload_n 0, 1) := dc_42 (by decide +kernel)
theorem dX3_findHyphens_112 : decode cX3_findHyphens 112 = .ok (.getfield 162, 3) := dc_180 (a := 0) (b := 162) (n := 162) (by decide +kernel)
theorem dX3_findHyphens_115 : decode cX3_findHyphens 115 = .ok (.aload_n 0, 1) := dc_42 (by decide +kernel)
theorem dX3_findHyphens_116 : decode cX3_findHyphens 116 = .ok (.getfield 219, 3) := dc_180 (a := 0) (b := 219) (n := 219) (by decide +kernel)
theorem dX3_findHyphens_119 : decode cX3_findHyphens 119 = .ok (.invokevirtual 488, 3) := dc_182 (a := 1) (b := 232) (n := 488) (by decide +kernel)
theorem dX3_findHyphens_122 : decode cX3_findHyphens 122 = .ok (.iconst 1, 1) := dc_4 (by decide +kernel)
theorem dX3_findHyphens_123 : decode cX3_findHyphens 123 = .ok (.istore_n 2, 1) := dc_61 (by decide +kernel)
theorem dX3_findHyphens_124 : decode cX3_findHyphens 124 = .ok (.iload_n 2, 1) := dc_28 (by decide +kernel)
theorem dX3_findHyphens_125 : decode cX3_findHyphens 125 = .ok (.aload_n 0, 1) := dc_42 (by decide +kernel)
theorem dX3_findHyphens_126 : decode cX3_findHyphens 126 = .ok (.getfield 219, 3) := dc_180 (a := 0) (b := 219) (n := 219) (by decide +kernel)
theorem dX3_findHyphens_129 : decode cX3_findHyphens 129 = .ok (.if_icmp .ge 25, 3) := dc_162 (a := 0) (b := 25) (v := 25) (by decide +kernel)
theorem dX3_findHyphens_132 : decode cX3_findHyphens 132 = .ok (.aload_n 0, 1) := dc_42 (by decide +kernel)
theorem dX3_findHyphens_133 : decode cX3_findHyphens 133 = .ok (.getfield 57, 3) := dc_180 (a := 0) (b := 57) (n := 57) (by decide +kernel)
theorem dX3_findHyphens_136 : decode cX3_findHyphens 136 = .ok (.iload_n 2, 1) := dc_28 (by decide +kernel)
theorem dX3_findHyphens_137 : decode cX3_findHyphens 137 = .ok (.invokevirtual 492, 3) := dc_182 (a := 1) (b := 236) (n := 492) (by decide +kernel)
theorem dX3_findHyphens_140 : decode cX3_findHyphens 140 = .ok (.ifCond .eq 8, 3) := dc_153 (a := 0) (b := 8) (v := 8) (by decide +kernel)
theorem dX3_findHyphens_143 : decode cX3_findHyphens 143 = .ok (.aload_n 0, 1) := dc_42 (by decide +kernel)
theorem dX3_findHyphens_144 : decode cX3_findHyphens 144 = .ok (.iload_n 2, 1) := dc_28 (by decide +kernel)
theorem dX3_findHyphens_145 : decode cX3_findHyphens 145 = .ok (.invokevirtual 495, 3) := dc_182 (a := 1) (b := 239) (n := 495) (by decide +kernel)
theorem dX3_findHyphens_148 : decode cX3_findHyphens 148 = .ok (.iinc 2 1, 3) := dc_132 (a := 2) (b := 1) (v := 1) (by decide +kernel)
theorem dX3_findHyphens_151 : decode cX3_findHyphens 151 = .ok (.goto (-27), 3) := dc_167 (a := 255) (b := 229) (v := -27) (by decide +kernel)
theorem dX3_findHyphens_154 : decode cX3_findHyphens 154 = .ok (.return_, 1) := dc_177 (by decide +kernel)
theorem GX3_211 {w : eW} {d : Nat} {Y : eY} {pc : Nat} {ls : eL} {st : List Value} {h : eH} {Q : eO → eH → Prop} {a : Nat} {x : Int32} (hf : g_I 2 h a 27 = some x) (hd : decode Y.2.1 pc = .ok (.getfield 211, 3)) (hY : Y.1.cls = RX3) (kk : wp w d Y (pc + 3) ls (.int x :: st) h Q) : wp w d Y pc ls (.ref a :: st) h Q := x_gI (ci := 2) (k := 27) hf hd rfl (by decide) (by rw [hY]; exact q1819) kk
theorem GX3_57 {w : eW} {d : Nat} {Y : eY} {pc : Nat} {ls : eL} {st : List Value} {h : eH} {Q : eO → eH → Prop} {a : Nat} {x : Nat} (hf : g_A 2 h a 7 = some x) (hd : decode Y.2.1 pc = .ok (.getfield 57, 3)) (hY : Y.1.cls = RX3) (kk : wp w d Y (pc + 3) ls (.ref x :: st) h Q) : wp w d Y pc ls (.ref a :: st) h Q := x_gA (ci := 2) (k := 7) hf hd rfl (by decide) (by rw [hY]; exact q1797) kk
def fX3_findHyphens_b94 (N : Nat) (k68 : Nat → Int32 → Int32 → eH → Option (Unit × eH)) (l0 : Nat) (l2 : Int32) (s0 : Int32) (s1 : Int32) (h : eH) : Option (Unit × eH) :=
  k68 l0 (s0 &&& s1) (l2 + (1 : Int32)) h
theorem pX3_findHyphens_b94 {w : eW} {d : Nat} (hd : 7 ≤ d + 1) {N : Nat} {k68 : Nat → Int32 → Int32 → eH → Option (Unit × eH)} (hk68 : ∀ l0 l1 l2 h q, k68 l0 l1 l2 h = some q → wp w (d + 1) YX3_findHyphens 68 [some (.ref l0), some (.int l1), some (.int l2)] [] h (e_is (e_rn c_V q))) {l0 : Nat} {l2 : Int32} {s0 : Int32} {s1 : Int32} {h : eH} {q} (hf : fX3_findHyphens_b94 N k68 l0 l2 s0 s1 h = some q) : wp w (d + 1) YX3_findHyphens 94 [some (.ref l0), none, some (.int l2)] [.int s1, .int s0] h (e_is (e_rn c_V q)) := by
  unfold fX3_findHyphens_b94 at hf
  refine w_iand dX3_findHyphens_94 ?_
  refine w_istore_n dX3_findHyphens_95 rfl (by decide) (ls' := [some (.ref l0), some (.int (s0 &&& s1)), some (.int l2)]) rfl ?_
  refine w_iinc dX3_findHyphens_96 (v := (l2 + (1 : Int32))) rfl rfl (by decide) (ls' := [some (.ref l0), some (.int (s0 &&& s1)), some (.int (l2 + (1 : Int32)))]) rfl ?_
  refine w_goto 68 dX3_findHyphens_99 (by decide) ?_
  exact (hk68 _ _ _ _ _ hf).to ⟨rfl, rfl, rfl, trivial⟩
def fX3_findHyphens_b148 (N : Nat) (k124 : Nat → Int32 → eH → Option (Unit × eH)) (l0 : Nat) (l2 : Int32) (h : eH) : Option (Unit × eH) :=
  k124 l0 (l2 + (1 : Int32)) h
theorem pX3_findHyphens_b148 {w : eW} {d : Nat} (hd : 7 ≤ d + 1) {N : Nat} {k124 : Nat → Int32 → eH → Option (Unit × eH)} (hk124 : ∀ l0 l2 h q, k124 l0 l2 h = some q → wp w (d + 1) YX3_findHyphens 124 [some (.ref l0), none, some (.int l2)] [] h (e_is (e_rn c_V q))) {l0 : Nat} {l2 : Int32} {h : eH} {q} (hf : fX3_findHyphens_b148 N k124 l0 l2 h = some q) : wp w (d + 1) YX3_findHyphens 148 [some (.ref l0), none, some (.int l2)] [] h (e_is (e_rn c_V q)) := by
  unfold fX3_findHyphens_b148 at hf
  refine w_iinc dX3_findHyphens_148 (v := (l2 + (1 : Int32))) rfl rfl (by decide) (ls' := [some (.ref l0), none, some (.int (l2 + (1 : Int32)))]) rfl ?_
  refine w_goto 124 dX3_findHyphens_151 (by decide) ?_
  exact (hk124 _ _ _ _ hf).to ⟨rfl, rfl, trivial⟩
def fX3_findHyphens_b124 (N : Nat) : Nat → Nat → Int32 → eH → Option (Unit × eH)
  | 0, _, _, _ => none
  | n + 1, l0, l2, h =>
    (g_I 2 h l0 30).bind fun x1 =>
    if x1 ≤ l2 then
      some ((), h)
    else
      (g_A 2 h l0 7).bind fun a4 =>
      (k_ok 13 h a4).bind fun _ =>
      (fX14_isBroken a4 l2 h).bind fun q7 =>
      if q7.1 = 0 then
        fX3_findHyphens_b148 N (fX3_findHyphens_b124 N n) l0 l2 q7.2
      else
        (k_ok 2 q7.2 l0).bind fun _ =>
        (fX3_noteHyphen N l0 l2 q7.2).bind fun q10 =>
        fX3_findHyphens_b148 N (fX3_findHyphens_b124 N n) l0 l2 q10.2
theorem pX3_findHyphens_b124 {w : eW} {d : Nat} (hd : 7 ≤ d + 1) {N : Nat} : ∀ (n : Nat) l0 l2 h q, fX3_findHyphens_b124 N n l0 l2 h = some q → wp w (d + 1) YX3_findHyphens 124 [some (.ref l0), none, some (.int l2)] [] h (e_is (e_rn c_V q)) := by
  intro n
  induction n with
  | zero => intro l0 l2 h q hf; simp [fX3_findHyphens_b124] at hf
  | succ n ih =>
    intro l0 l2 h q hf
    rw [fX3_findHyphens_b124] at hf
    refine w_iload_n dX3_findHyphens_124 rfl rfl ?_
    refine w_aload_n dX3_findHyphens_125 rfl rfl ?_
    obtain ⟨x1, b2, hf⟩ := Option.bind_eq_some_iff.mp hf
    refine GX3_219 b2 dX3_findHyphens_126 rfl ?_
    refine w_icmp_ge 154 dX3_findHyphens_129 (by decide) (fun c3 => ?_) (fun c3 => ?_)
    · replace hf := (if_pos (show x1 ≤ l2 from c3)).symm.trans hf
      cases hf
      exact w_vret dX3_findHyphens_154 rfl rfl
    · replace hf := (if_neg (show ¬ (x1 ≤ l2) from c3)).symm.trans hf
      refine w_aload_n dX3_findHyphens_132 rfl rfl ?_
      obtain ⟨a4, b5, hf⟩ := Option.bind_eq_some_iff.mp hf
      refine GX3_57 b5 dX3_findHyphens_133 rfl ?_
      refine w_iload_n dX3_findHyphens_136 rfl rfl ?_
      obtain ⟨_, b6, hf⟩ := Option.bind_eq_some_iff.mp hf
      refine x_cnI hf (e_stV (Yc := YX14_isBroken) (ci := 13) (av := [.int l2]) (st := []) dX3_findHyphens_137 q3146 mX14_isBroken rfl (k_ok_some b6).1 (k_ok_some b6).2) mX14_isBroken.2.2.1 mX14_isBroken.2.2.2.2.1 (Nat.le_of_ble_eq_true rfl) (Nat.le_of_ble_eq_true rfl) (fun q hq => pX14_isBroken (by omega) hq) (fun q7 hf => ?_)
      refine w_if_eq 148 dX3_findHyphens_140 (by decide) (fun c8 => ?_) (fun c8 => ?_)
      · replace hf := (if_pos (show q7.1 = 0 from c8)).symm.trans hf
        exact (pX3_findHyphens_b148 hd ih hf).to ⟨rfl, rfl, trivial⟩
      · replace hf := (if_neg (show ¬ (q7.1 = 0) from c8)).symm.trans hf
        refine w_aload_n dX3_findHyphens_143 rfl rfl ?_
        refine w_iload_n dX3_findHyphens_144 rfl rfl ?_
        obtain ⟨_, b9, hf⟩ := Option.bind_eq_some_iff.mp hf
        refine x_cnV hf (e_stV (Yc := YX3_noteHyphen) (ci := 2) (av := [.int l2]) (st := []) dX3_findHyphens_145 q3150 mX3_noteHyphen rfl (k_ok_some b9).1 (k_ok_some b9).2) mX3_noteHyphen.2.2.1 mX3_noteHyphen.2.2.2.2.1 (Nat.le_of_ble_eq_true rfl) (Nat.le_of_ble_eq_true rfl) (fun q hq => pX3_noteHyphen (by omega) hq) (fun q10 hf => ?_)
        exact (pX3_findHyphens_b148 hd ih hf).to ⟨rfl, rfl, trivial⟩
def fX3_findHyphens_b68 (N : Nat) : Nat → Nat → Int32 → Int32 → eH → Option (Unit × eH)
  | 0, _, _, _, _ => none
  | n + 1, l0, l1, l2, h =>
    (g_I 2 h l0 30).bind fun x1 =>
    if x1 ≤ l2 then
      if ¬ l1 = 0 then
        (g_A 2 h l0 7).bind fun a5 =>
        (g_A 2 h l0 28).bind fun a7 =>
        (g_I 2 h l0 30).bind fun x9 =>
        (k_ok 13 h a5).bind fun _ =>
        (fX14_look N a5 a7 x9 h).bind fun q12 =>
        fX3_findHyphens_b124 N N l0 (1 : Int32) q12.2
      else
        some ((), h)
    else
      (g_A 2 h l0 28).bind fun a13 =>
      (r_I 102 h a13 l2).bind fun x15 =>
      (fX14_letter x15 h).bind fun q17 =>
      if q17.1 ≤ 0 then
        fX3_findHyphens_b94 N (fX3_findHyphens_b68 N n) l0 l2 l1 (0 : Int32) q17.2
      else
        fX3_findHyphens_b94 N (fX3_findHyphens_b68 N n) l0 l2 l1 (1 : Int32) q17.2
theorem pX3_findHyphens_b68 {w : eW} {d : Nat} (hd : 7 ≤ d + 1) {N : Nat} : ∀ (n : Nat) l0 l1 l2 h q, fX3_findHyphens_b68 N n l0 l1 l2 h = some q → wp w (d + 1) YX3_findHyphens 68 [some (.ref l0), some (.int l1), some (.int l2)] [] h (e_is (e_rn c_V q)) := by
  intro n
  induction n with
  | zero => intro l0 l1 l2 h q hf; simp [fX3_findHyphens_b68] at hf
  | succ n ih =>
    intro l0 l1 l2 h q hf
    rw [fX3_findHyphens_b68] at hf
    refine w_iload_n dX3_findHyphens_68 rfl rfl ?_
    refine w_aload_n dX3_findHyphens_69 rfl rfl ?_
    obtain ⟨x1, b2, hf⟩ := Option.bind_eq_some_iff.mp hf
    refine GX3_219 b2 dX3_findHyphens_70 rfl ?_
    refine w_icmp_ge 102 dX3_findHyphens_73 (by decide) (fun c3 => ?_) (fun c3 => ?_)
    · replace hf := (if_pos (show x1 ≤ l2 from c3)).symm.trans hf
      refine w_iload_n dX3_findHyphens_102 rfl rfl ?_
      refine w_if_ne 107 dX3_findHyphens_103 (by decide) (fun c4 => ?_) (fun c4 => ?_)
      · replace hf := (if_pos (show ¬ l1 = 0 from c4)).symm.trans hf
        refine w_aload_n dX3_findHyphens_107 rfl rfl ?_
        obtain ⟨a5, b6, hf⟩ := Option.bind_eq_some_iff.mp hf
        refine GX3_57 b6 dX3_findHyphens_108 rfl ?_
        refine w_aload_n dX3_findHyphens_111 rfl rfl ?_
        obtain ⟨a7, b8, hf⟩ := Option.bind_eq_some_iff.mp hf
        refine GX3_162 b8 dX3_findHyphens_112 rfl ?_
        refine w_aload_n dX3_findHyphens_115 rfl rfl ?_
        obtain ⟨x9, b10, hf⟩ := Option.bind_eq_some_iff.mp hf
        refine GX3_219 b10 dX3_findHyphens_116 rfl ?_
        obtain ⟨_, b11, hf⟩ := Option.bind_eq_some_iff.mp hf
        refine x_cnV hf (e_stV (Yc := YX14_look) (ci := 13) (av := [.ref a7, .int x9]) (st := []) dX3_findHyphens_119 q3113 mX14_look rfl (k_ok_some b11).1 (k_ok_some b11).2) mX14_look.2.2.1 mX14_look.2.2.2.2.1 (Nat.le_of_ble_eq_true rfl) (Nat.le_of_ble_eq_true rfl) (fun q hq => pX14_look (by omega) hq) (fun q12 hf => ?_)
        refine w_iconst dX3_findHyphens_122 (v := 1) (by decide) ?_
        refine w_istore_n dX3_findHyphens_123 rfl (by decide) (ls' := [some (.ref l0), some (.int l1), some (.int (1 : Int32))]) rfl ?_
        exact (pX3_findHyphens_b124 hd N _ _ _ _ hf).to ⟨rfl, rfl, trivial⟩
      · replace hf := (if_neg (show ¬ (¬ l1 = 0) from (fun z => z c4))).symm.trans hf
        cases hf
        exact w_vret dX3_findHyphens_106 rfl rfl
    · replace hf := (if_neg (show ¬ (x1 ≤ l2) from c3)).symm.trans hf
      refine w_iload_n dX3_findHyphens_76 rfl rfl ?_
      refine w_aload_n dX3_findHyphens_77 rfl rfl ?_
      obtain ⟨a13, b14, hf⟩ := Option.bind_eq_some_iff.mp hf
      refine GX3_162 b14 dX3_findHyphens_78 rfl ?_
      refine w_iload_n dX3_findHyphens_81 rfl rfl ?_
      obtain ⟨x15, b16, hf⟩ := Option.bind_eq_some_iff.mp hf
      refine x_rB b16 dX3_findHyphens_82 ?_
      refine x_cnI hf (e_stS (Yc := YX14_letter) (av := [.int x15]) (st := [.int l1]) dX3_findHyphens_83 q3112 mX14_letter) mX14_letter.2.2.1 mX14_letter.2.2.2.2.1 (Nat.le_of_ble_eq_true rfl) (Nat.le_of_ble_eq_true rfl) (fun q hq => pX14_letter (by omega) hq) (fun q17 hf => ?_)
      refine w_if_le 93 dX3_findHyphens_86 (by decide) (fun c18 => ?_) (fun c18 => ?_)
      · replace hf := (if_pos (show q17.1 ≤ 0 from c18)).symm.trans hf
        refine w_iconst dX3_findHyphens_93 (v := 0) (by decide) ?_
        exact (pX3_findHyphens_b94 hd ih hf).to ⟨rfl, rfl, trivial⟩
      · replace hf := (if_neg (show ¬ (q17.1 ≤ 0) from c18)).symm.trans hf
        refine w_iconst dX3_findHyphens_89 (v := 1) (by decide) ?_
        refine w_goto 94 dX3_findHyphens_90 (by decide) ?_
        exact (pX3_findHyphens_b94 hd ih hf).to ⟨rfl, rfl, trivial⟩
def fX3_findHyphens_b65 (N : Nat) (l0 : Nat) (s0 : Int32) (h : eH) : Option (Unit × eH) :=
  fX3_findHyphens_b68 N N l0 s0 (0 : Int32) h
theorem pX3_findHyphens_b65 {w : eW} {d : Nat} (hd : 7 ≤ d + 1) {N : Nat} {l0 : Nat} {s0 : Int32} {h : eH} {q} (hf : fX3_findHyphens_b65 N l0 s0 h = some q) : wp w (d + 1) YX3_findHyphens 65 [some (.ref l0), none, none] [.int s0] h (e_is (e_rn c_V q)) := by
  unfold fX3_findHyphens_b65 at hf
  refine w_istore_n dX3_findHyphens_65 rfl (by decide) (ls' := [some (.ref l0), some (.int s0), none]) rfl ?_
  refine w_iconst dX3_findHyphens_66 (v := 0) (by decide) ?_
  refine w_istore_n dX3_findHyphens_67 rfl (by decide) (ls' := [some (.ref l0), some (.int s0), some (.int (0 : Int32))]) rfl ?_
  exact (pX3_findHyphens_b68 hd N _ _ _ _ _ hf).to ⟨rfl, rfl, rfl, trivial⟩
def fX3_findHyphens_b64 (N : Nat) (l0 : Nat) (h : eH) : Option (Unit × eH) :=
  fX3_findHyphens_b65 N l0 (0 : Int32) h
theorem pX3_findHyphens_b64 {w : eW} {d : Nat} (hd : 7 ≤ d + 1) {N : Nat} {l0 : Nat} {h : eH} {q} (hf : fX3_findHyphens_b64 N l0 h = some q) : wp w (d + 1) YX3_findHyphens 64 [some (.ref l0), none, none] [] h (e_is (e_rn c_V q)) := by
  unfold fX3_findHyphens_b64 at hf
  refine w_iconst dX3_findHyphens_64 (v := 0) (by decide) ?_
  exact (pX3_findHyphens_b65 hd hf).to ⟨rfl, trivial⟩
def fX3_findHyphens (N : Nat) (this : Nat) (h : eH) : Option (Unit × eH) :=
  (g_A 2 h this 34).bind fun a1 =>
  (g_A 2 h this 32).bind fun a3 =>
  (g_I 33 h a3 1).bind fun x5 =>
  (fJ0_fill_3 N a1 (0 : Int32) (x5 + (1 : Int32)) (0 : Int32) h).bind fun q7 =>
  (g_A 2 q7.2 this 19).bind fun a8 =>
  (g_I 2 q7.2 this 27).bind fun x10 =>
  (r_I 100 q7.2 a8 x10).bind fun x12 =>
  if ¬ x12 = (2 : Int32) then
    fX3_findHyphens_b64 N this q7.2
  else
    (g_I 2 q7.2 this 30).bind fun x15 =>
    if (63 : Int32) < x15 then
      fX3_findHyphens_b64 N this q7.2
    else
      (g_A 2 q7.2 this 1).bind fun a18 =>
      (g_A 4 q7.2 a18 1).bind fun a20 =>
      (g_I 2 q7.2 this 31).bind fun x22 =>
      (r_A 105 q7.2 a20 x22).bind fun a24 =>
      (k_ok 5 q7.2 a24).bind fun _ =>
      (fX6_has a24 (45 : Int32) q7.2).bind fun q27 =>
      if q27.1 = 0 then
        fX3_findHyphens_b64 N this q27.2
      else
        fX3_findHyphens_b65 N this (1 : Int32) q27.2
theorem pX3_findHyphens {w : eW} {d : Nat} (hd : 7 ≤ d) {N : Nat} {this : Nat} {h : eH} {q} (hf : fX3_findHyphens N this h = some q) : wm w d YX3_findHyphens [.ref this] h (e_is (e_rn c_V q)) := by
  obtain ⟨d, rfl⟩ : ∃ e, d = e + 1 := ⟨d - 1, by omega⟩
  show wp w (d + 1) YX3_findHyphens 0 [some (.ref this), none, none] [] h _
  unfold fX3_findHyphens at hf
  refine w_aload_n dX3_findHyphens_0 rfl rfl ?_
  obtain ⟨a1, b2, hf⟩ := Option.bind_eq_some_iff.mp hf
  refine GX3_175 b2 dX3_findHyphens_1 rfl ?_
  refine w_iconst dX3_findHyphens_4 (v := 0) (by decide) ?_
  refine w_aload_n dX3_findHyphens_5 rfl rfl ?_
  obtain ⟨a3, b4, hf⟩ := Option.bind_eq_some_iff.mp hf
  refine GX3_169 b4 dX3_findHyphens_6 rfl ?_
  obtain ⟨x5, b6, hf⟩ := Option.bind_eq_some_iff.mp hf
  refine GX3_210 b6 dX3_findHyphens_9 rfl ?_
  refine w_iconst dX3_findHyphens_12 (v := 1) (by decide) ?_
  refine w_iadd dX3_findHyphens_13 ?_
  refine w_iconst dX3_findHyphens_14 (v := 0) (by decide) ?_
  refine x_cnV hf (e_stS (Yc := YJ0_fill_3) (av := [.ref a1, .int (0 : Int32), .int (x5 + (1 : Int32)), .int (0 : Int32)]) (st := []) dX3_findHyphens_15 q2851 mJ0_fill_3) mJ0_fill_3.2.2.1 mJ0_fill_3.2.2.2.2.1 (Nat.le_of_ble_eq_true rfl) (Nat.le_of_ble_eq_true rfl) (fun q hq => pJ0_fill_3 (by omega) hq) (fun q7 hf => ?_)
  refine w_aload_n dX3_findHyphens_18 rfl rfl ?_
  obtain ⟨a8, b9, hf⟩ := Option.bind_eq_some_iff.mp hf
  refine GX3_136 b9 dX3_findHyphens_19 rfl ?_
  refine w_aload_n dX3_findHyphens_22 rfl rfl ?_
  obtain ⟨x10, b11, hf⟩ := Option.bind_eq_some_iff.mp hf
  refine GX3_211 b11 dX3_findHyphens_23 rfl ?_
  obtain ⟨x12, b13, hf⟩ := Option.bind_eq_some_iff.mp hf
  refine x_rI b13 dX3_findHyphens_26 ?_
  refine w_iconst dX3_findHyphens_27 (v := 2) (by decide) ?_
  refine w_icmp_ne 64 dX3_findHyphens_28 (by decide) (fun c14 => ?_) (fun c14 => ?_)
  · replace hf := (if_pos (show ¬ x12 = (2 : Int32) from c14)).symm.trans hf
    exact (pX3_findHyphens_b64 hd hf).to ⟨rfl, trivial⟩
  · replace hf := (if_neg (show ¬ (¬ x12 = (2 : Int32)) from (fun z => z c14))).symm.trans hf
    refine w_aload_n dX3_findHyphens_31 rfl rfl ?_
    obtain ⟨x15, b16, hf⟩ := Option.bind_eq_some_iff.mp hf
    refine GX3_219 b16 dX3_findHyphens_32 rfl ?_
    refine w_bipush dX3_findHyphens_35 (v := 63) (by decide) ?_
    refine w_icmp_gt 64 dX3_findHyphens_37 (by decide) (fun c17 => ?_) (fun c17 => ?_)
    · replace hf := (if_pos (show (63 : Int32) < x15 from c17)).symm.trans hf
      exact (pX3_findHyphens_b64 hd hf).to ⟨rfl, trivial⟩
    · replace hf := (if_neg (show ¬ ((63 : Int32) < x15) from c17)).symm.trans hf
      refine w_aload_n dX3_findHyphens_40 rfl rfl ?_
      obtain ⟨a18, b19, hf⟩ := Option.bind_eq_some_iff.mp hf
      refine GX3_23 b19 dX3_findHyphens_41 rfl ?_
      obtain ⟨a20, b21, hf⟩ := Option.bind_eq_some_iff.mp hf
      refine GX3_448 b21 dX3_findHyphens_44 rfl ?_
      refine w_aload_n dX3_findHyphens_47 rfl rfl ?_
      obtain ⟨x22, b23, hf⟩ := Option.bind_eq_some_iff.mp hf
      refine GX3_457 b23 dX3_findHyphens_48 rfl ?_
      obtain ⟨a24, b25, hf⟩ := Option.bind_eq_some_iff.mp hf
      refine x_rA (c := 105) (by decide) b25 dX3_findHyphens_51 ?_
      refine w_bipush dX3_findHyphens_52 (v := 45) (by decide) ?_
      obtain ⟨_, b26, hf⟩ := Option.bind_eq_some_iff.mp hf
      refine x_cnI hf (e_stV (Yc := YX6_has) (ci := 5) (av := [.int (45 : Int32)]) (st := []) dX3_findHyphens_54 q3111 mX6_has rfl (k_ok_some b26).1 (k_ok_some b26).2) mX6_has.2.2.1 mX6_has.2.2.2.2.1 (Nat.le_of_ble_eq_true rfl) (Nat.le_of_ble_eq_true rfl) (fun q hq => pX6_has (by omega) hq) (fun q27 hf => ?_)
      refine w_if_eq 64 dX3_findHyphens_57 (by decide) (fun c28 => ?_) (fun c28 => ?_)
      · replace hf := (if_pos (show q27.1 = 0 from c28)).symm.trans hf
        exact (pX3_findHyphens_b64 hd hf).to ⟨rfl, trivial⟩
      · replace hf := (if_neg (show ¬ (q27.1 = 0) from c28)).symm.trans hf
        refine w_iconst dX3_findHyphens_60 (v := 1) (by decide) ?_
        refine w_goto 65 dX3_findHyphens_61 (by decide) ?_
        exact (pX3_findHyphens_b65 hd hf).to ⟨rfl, trivial⟩
abbrev cX5_width : ByteArray := prog_9_method_6_code
def yX5_width : MethodName := ⟨RX5, "width", "(II)I"⟩
def YX5_width : eY := (yX5_width, cX5_width, 3, (Option.some FieldType.int), [])
theorem mX5_width : e_mv YX5_width RX5 2 := ⟨q3173, q3174, q3175, by decide, by decide +kernel, (e_sig (by decide +kernel))⟩
theorem dX5_width_0 : decode cX5_width 0 = .ok (.aload_n 0, 1) := dc_42 (by decide +kernel)
theorem dX5_width_1 : decode cX5_width 1 = .ok (.getfield 19, 3) := dc_180 (a := 0) (b := 19) (n := 19) (by decide +kernel)
theorem dX5_width_4 : decode cX5_width 4 = .ok (.iload_n 1, 1) := dc_27 (by decide +kernel)
theorem dX5_width_5 : decode cX5_width 5 = .ok (.aaload, 1) := dc_50 (by decide +kernel)
theorem dX5_width_6 : decode cX5_width 6 = .ok (.iload_n 2, 1) := dc_28 (by decide +kernel)
theorem dX5_width_7 : decode cX5_width 7 = .ok (.iconst 0, 1) := dc_3 (by decide +kernel)
theorem dX5_width_8 : decode cX5_width 8 = .ok (.invokevirtual 88, 3) := dc_182 (a := 0) (b := 88) (n := 88) (by decide +kernel)
theorem dX5_width_11 : decode cX5_width 11 = .ok (.ireturn, 1) := dc_172 (by decide +kernel)
theorem GX5_19 {w : eW} {d : Nat} {Y : eY} {pc : Nat} {ls : eL} {st : List Value} {h : eH} {Q : eO → eH → Prop} {a : Nat} {x : Nat} (hf : g_A 4 h a 1 = some x) (hd : decode Y.2.1 pc = .ok (.getfield 19, 3)) (hY : Y.1.cls = RX5) (kk : wp w d Y (pc + 3) ls (.ref x :: st) h Q) : wp w d Y pc ls (.ref a :: st) h Q := x_gA (ci := 4) (k := 1) hf hd rfl (by decide) (by rw [hY]; exact q586) kk
def fX5_width (this : Nat) (p0 : Int32) (p1 : Int32) (h : eH) : Option (Int32 × eH) :=
  (g_A 4 h this 1).bind fun a1 =>
  (r_A 105 h a1 p0).bind fun a3 =>
  (k_ok 5 h a3).bind fun _ =>
  (fX6_of a3 p1 (0 : Int32) h).bind fun q6 =>
  some (q6.1, q6.2)
theorem pX5_width {w : eW} {d : Nat} (hd : 3 ≤ d) {this : Nat} {p0 : Int32} {p1 : Int32} {h : eH} {q} (hf : fX5_width this p0 p1 h = some q) : wm w d YX5_width [.ref this, .int p0, .int p1] h (e_is (e_rn c_I q)) := by
  obtain ⟨d, rfl⟩ : ∃ e, d = e + 1 := ⟨d - 1, by omega⟩
  show wp w (d + 1) YX5_width 0 [some (.ref this), some (.int p0), some (.int p1)] [] h _
  unfold fX5_width at hf
  refine w_aload_n dX5_width_0 rfl rfl ?_
  obtain ⟨a1, b2, hf⟩ := Option.bind_eq_some_iff.mp hf
  refine GX5_19 b2 dX5_width_1 rfl ?_
  refine w_iload_n dX5_width_4 rfl rfl ?_
  obtain ⟨a3, b4, hf⟩ := Option.bind_eq_some_iff.mp hf
  refine x_rA (c := 105) (by decide) b4 dX5_width_5 ?_
  refine w_iload_n dX5_width_6 rfl rfl ?_
  refine w_iconst dX5_width_7 (v := 0) (by decide) ?_
  obtain ⟨_, b5, hf⟩ := Option.bind_eq_some_iff.mp hf
  refine x_cnI hf (e_stV (Yc := YX6_of) (ci := 5) (av := [.int p1, .int (0 : Int32)]) (st := []) dX5_width_8 q3176 mX6_of rfl (k_ok_some b5).1 (k_ok_some b5).2) mX6_of.2.2.1 mX6_of.2.2.2.2.1 (Nat.le_of_ble_eq_true rfl) (Nat.le_of_ble_eq_true rfl) (fun q hq => pX6_of (by omega) hq) (fun q6 hf => ?_)
  cases hf
  exact w_iret dX5_width_11 rfl rfl rfl
abbrev cX3_put : ByteArray := prog_26_method_11_code
def yX3_put : MethodName := ⟨RX3, "put", "(IIIIII)V"⟩
def YX3_put : eY := (yX3_put, cX3_put, 7, none, [])
theorem mX3_put : e_mv YX3_put RX3 6 := ⟨q3179, qs113, q3180, by decide, by decide +kernel, (e_sig (by decide +kernel))⟩
theorem dX3_put_0 : decode cX3_put 0 = .ok (.aload_n 0, 1) := dc_42 (by decide +kernel)
theorem dX3_put_1 : decode cX3_put 1 = .ok (.getfield 14, 3) := dc_180 (a := 0) (b := 14) (n := 14) (by decide +kernel)
theorem dX3_put_4 : decode cX3_put 4 = .ok (.aload_n 0, 1) := dc_42 (by decide +kernel)
theorem dX3_put_5 : decode cX3_put 5 = .ok (.getfield 126, 3) := dc_180 (a := 0) (b := 126) (n := 126) (by decide +kernel)
theorem dX3_put_8 : decode cX3_put 8 = .ok (.getfield 210, 3) := dc_180 (a := 0) (b := 210) (n := 210) (by decide +kernel)
theorem dX3_put_11 : decode cX3_put 11 = .ok (.sipush 20000, 3) := dc_17 (a := 78) (b := 32) (v := 20000) (by decide +kernel)
theorem dX3_put_14 : decode cX3_put 14 = .ok (.if_icmp .ge 7, 3) := dc_162 (a := 0) (b := 7) (v := 7) (by decide +kernel)
theorem dX3_put_17 : decode cX3_put 17 = .ok (.iconst 1, 1) := dc_4 (by decide +kernel)
theorem dX3_put_18 : decode cX3_put 18 = .ok (.goto 4, 3) := dc_167 (a := 0) (b := 4) (v := 4) (by decide +kernel)
theorem dX3_put_21 : decode cX3_put 21 = .ok (.iconst 0, 1) := dc_3 (by decide +kernel)
theorem dX3_put_22 : decode cX3_put 22 = .ok (.iconst 2, 1) := dc_5 (by decide +kernel)
theorem dX3_put_23 : decode cX3_put 23 = .ok (.invokevirtual 289, 3) := dc_182 (a := 1) (b := 33) (n := 289) (by decide +kernel)
theorem dX3_put_26 : decode cX3_put 26 = .ok (.aload_n 0, 1) := dc_42 (by decide +kernel)
theorem dX3_put_27 : decode cX3_put 27 = .ok (.getfield 126, 3) := dc_180 (a := 0) (b := 126) (n := 126) (by decide +kernel)
theorem dX3_put_30 : decode cX3_put 30 = .ok (.iload_n 1, 1) := dc_27 (by decide +kernel)
theorem dX3_put_31 : decode cX3_put 31 = .ok (.iload_n 2, 1) := dc_28 (by decide +kernel)
theorem dX3_put_32 : decode cX3_put 32 = .ok (.iload_n 3, 1) := dc_29 (by decide +kernel)
theorem dX3_put_33 : decode cX3_put 33 = .ok (.iload 4, 2) := dc_21 (a := 4) (by decide +kernel)
theorem dX3_put_35 : decode cX3_put 35 = .ok (.iload 5, 2) := dc_21 (a := 5) (by decide +kernel)
theorem dX3_put_37 : decode cX3_put 37 = .ok (.iload 6, 2) := dc_21 (a := 6) (by decide +kernel)
theorem dX3_put_39 : decode cX3_put 39 = .ok (.invokevirtual 322, 3) := dc_182 (a := 1) (b := 66) (n := 322) (by decide +kernel)
theorem dX3_put_42 : decode cX3_put 42 = .ok (.return_, 1) := dc_177 (by decide +kernel)
def fX3_put_b22 (l0 : Nat) (l1 : Int32) (l2 : Int32) (l3 : Int32) (l4 : Int32) (l5 : Int32) (l6 : Int32) (s0 : Nat) (s1 : Int32) (h : eH) : Option ((Unit ⊕ Nat) × eH) :=
  (k_ok 3 h s0).bind fun _ =>
  t_B (fX4_want s0 s1 (2 : Int32) h) fun x2 h3 =>
  (g_A 2 h3 l0 16).bind fun a4 =>
  (k_ok 33 h3 a4).bind fun _ =>
  (fX34_add a4 l1 l2 l3 l4 l5 l6 h3).bind fun q7 =>
  some (.inl (), q7.2)
theorem pX3_put_b22 {w : eW} {d : Nat} (hd : 8 ≤ d + 1) {l0 : Nat} {l1 : Int32} {l2 : Int32} {l3 : Int32} {l4 : Int32} {l5 : Int32} {l6 : Int32} {s0 : Nat} {s1 : Int32} {h : eH} {q} (hf : fX3_put_b22 l0 l1 l2 l3 l4 l5 l6 s0 s1 h = some q) : wp w (d + 1) YX3_put 22 [some (.ref l0), some (.int l1), some (.int l2), some (.int l3), some (.int l4), some (.int l5), some (.int l6)] [.int s1, .ref s0] h (e_is (e_rt c_V q)) := by
  unfold fX3_put_b22 at hf
  refine w_iconst dX3_put_22 (v := 2) (by decide) ?_
  obtain ⟨_, b1, hf⟩ := Option.bind_eq_some_iff.mp hf
  refine x_ctV hf (e_stV (Yc := YX4_want) (ci := 3) (av := [.int s1, .int (2 : Int32)]) (st := []) dX3_put_23 q2846 mX4_want rfl (k_ok_some b1).1 (k_ok_some b1).2) mX4_want.2.2.1 mX4_want.2.2.2.2.1 (Nat.le_of_ble_eq_true rfl) (Nat.le_of_ble_eq_true rfl) rfl (fun q hq => pX4_want (by omega) hq) (fun x2 h3 hf => ?_)
  refine w_aload_n dX3_put_26 rfl rfl ?_
  obtain ⟨a4, b5, hf⟩ := Option.bind_eq_some_iff.mp hf
  refine GX3_126 b5 dX3_put_27 rfl ?_
  refine w_iload_n dX3_put_30 rfl rfl ?_
  refine w_iload_n dX3_put_31 rfl rfl ?_
  refine w_iload_n dX3_put_32 rfl rfl ?_
  refine w_iload dX3_put_33 rfl ?_
  refine w_iload dX3_put_35 rfl ?_
  refine w_iload dX3_put_37 rfl ?_
  obtain ⟨_, b6, hf⟩ := Option.bind_eq_some_iff.mp hf
  refine x_cnV hf (e_stV (Yc := YX34_add) (ci := 33) (av := [.int l1, .int l2, .int l3, .int l4, .int l5, .int l6]) (st := []) dX3_put_39 q2837 mX34_add rfl (k_ok_some b6).1 (k_ok_some b6).2) mX34_add.2.2.1 mX34_add.2.2.2.2.1 (Nat.le_of_ble_eq_true rfl) (Nat.le_of_ble_eq_true rfl) (fun q hq => pX34_add (by omega) hq) (fun q7 hf => ?_)
  cases hf
  exact w_vret dX3_put_42 rfl rfl
def fX3_put (this : Nat) (p0 : Int32) (p1 : Int32) (p2 : Int32) (p3 : Int32) (p4 : Int32) (p5 : Int32) (h : eH) : Option ((Unit ⊕ Nat) × eH) :=
  (g_A 2 h this 0).bind fun a1 =>
  (g_A 2 h this 16).bind fun a3 =>
  (g_I 33 h a3 1).bind fun x5 =>
  if (20000 : Int32) ≤ x5 then
    fX3_put_b22 this p0 p1 p2 p3 p4 p5 a1 (0 : Int32) h
  else
    fX3_put_b22 this p0 p1 p2 p3 p4 p5 a1 (1 : Int32) h
theorem pX3_put {w : eW} {d : Nat} (hd : 8 ≤ d) {this : Nat} {p0 : Int32} {p1 : Int32} {p2 : Int32} {p3 : Int32} {p4 : Int32} {p5 : Int32} {h : eH} {q} (hf : fX3_put this p0 p1 p2 p3 p4 p5 h = some q) : wm w d YX3_put [.ref this, .int p0, .int p1, .int p2, .int p3, .int p4, .int p5] h (e_is (e_rt c_V q)) := by
  obtain ⟨d, rfl⟩ : ∃ e, d = e + 1 := ⟨d - 1, by omega⟩
  show wp w (d + 1) YX3_put 0 [some (.ref this), some (.int p0), some (.int p1), some (.int p2), some (.int p3), some (.int p4), some (.int p5)] [] h _
  unfold fX3_put at hf
  refine w_aload_n dX3_put_0 rfl rfl ?_
  obtain ⟨a1, b2, hf⟩ := Option.bind_eq_some_iff.mp hf
  refine GX3_14 b2 dX3_put_1 rfl ?_
  refine w_aload_n dX3_put_4 rfl rfl ?_
  obtain ⟨a3, b4, hf⟩ := Option.bind_eq_some_iff.mp hf
  refine GX3_126 b4 dX3_put_5 rfl ?_
  obtain ⟨x5, b6, hf⟩ := Option.bind_eq_some_iff.mp hf
  refine GX3_210 b6 dX3_put_8 rfl ?_
  refine w_sipush dX3_put_11 (v := 20000) (by decide) ?_
  refine w_icmp_ge 21 dX3_put_14 (by decide) (fun c7 => ?_) (fun c7 => ?_)
  · replace hf := (if_pos (show (20000 : Int32) ≤ x5 from c7)).symm.trans hf
    refine w_iconst dX3_put_21 (v := 0) (by decide) ?_
    exact (pX3_put_b22 hd hf).to ⟨rfl, rfl, rfl, rfl, rfl, rfl, rfl, trivial⟩
  · replace hf := (if_neg (show ¬ ((20000 : Int32) ≤ x5) from c7)).symm.trans hf
    refine w_iconst dX3_put_17 (v := 1) (by decide) ?_
    refine w_goto 22 dX3_put_18 (by decide) ?_
    exact (pX3_put_b22 hd hf).to ⟨rfl, rfl, rfl, rfl, rfl, rfl, rfl, trivial⟩
abbrev cX3_addHyphen : ByteArray := prog_26_method_29_code
def yX3_addHyphen : MethodName := ⟨RX3, "addHyphen", "(II)V"⟩
def YX3_addHyphen : eY := (yX3_addHyphen, cX3_addHyphen, 3, none, [])
theorem mX3_addHyphen : e_mv YX3_addHyphen RX3 2 := ⟨q3170, qs112, q3171, by decide, by decide +kernel, (e_sig (by decide +kernel))⟩
theorem dX3_addHyphen_0 : decode cX3_addHyphen 0 = .ok (.aload_n 0, 1) := dc_42 (by decide +kernel)
theorem dX3_addHyphen_1 : decode cX3_addHyphen 1 = .ok (.bipush 6, 2) := dc_16 (a := 6) (v := 6) (by decide +kernel)
theorem dX3_addHyphen_3 : decode cX3_addHyphen 3 = .ok (.aload_n 0, 1) := dc_42 (by decide +kernel)
theorem dX3_addHyphen_4 : decode cX3_addHyphen 4 = .ok (.getfield 23, 3) := dc_180 (a := 0) (b := 23) (n := 23) (by decide +kernel)
theorem dX3_addHyphen_7 : decode cX3_addHyphen 7 = .ok (.iload_n 1, 1) := dc_27 (by decide +kernel)
theorem dX3_addHyphen_8 : decode cX3_addHyphen 8 = .ok (.bipush 45, 2) := dc_16 (a := 45) (v := 45) (by decide +kernel)
theorem dX3_addHyphen_10 : decode cX3_addHyphen 10 = .ok (.invokevirtual 498, 3) := dc_182 (a := 1) (b := 242) (n := 498) (by decide +kernel)
theorem dX3_addHyphen_13 : decode cX3_addHyphen 13 = .ok (.iload_n 1, 1) := dc_27 (by decide +kernel)
theorem dX3_addHyphen_14 : decode cX3_addHyphen 14 = .ok (.bipush 8, 2) := dc_16 (a := 8) (v := 8) (by decide +kernel)
theorem dX3_addHyphen_16 : decode cX3_addHyphen 16 = .ok (.ishl, 1) := dc_120 (by decide +kernel)
theorem dX3_addHyphen_17 : decode cX3_addHyphen 17 = .ok (.bipush 45, 2) := dc_16 (a := 45) (v := 45) (by decide +kernel)
theorem dX3_addHyphen_19 : decode cX3_addHyphen 19 = .ok (.ior, 1) := dc_128 (by decide +kernel)
theorem dX3_addHyphen_20 : decode cX3_addHyphen 20 = .ok (.iload_n 2, 1) := dc_28 (by decide +kernel)
theorem dX3_addHyphen_21 : decode cX3_addHyphen 21 = .ok (.iconst 1, 1) := dc_4 (by decide +kernel)
theorem dX3_addHyphen_22 : decode cX3_addHyphen 22 = .ok (.iconst 0, 1) := dc_3 (by decide +kernel)
theorem dX3_addHyphen_23 : decode cX3_addHyphen 23 = .ok (.invokevirtual 318, 3) := dc_182 (a := 1) (b := 62) (n := 318) (by decide +kernel)
theorem dX3_addHyphen_26 : decode cX3_addHyphen 26 = .ok (.return_, 1) := dc_177 (by decide +kernel)
def fX3_addHyphen (this : Nat) (p0 : Int32) (p1 : Int32) (h : eH) : Option ((Unit ⊕ Nat) × eH) :=
  (g_A 2 h this 1).bind fun a1 =>
  (k_ok 4 h a1).bind fun _ =>
  (fX5_width a1 p0 (45 : Int32) h).bind fun q4 =>
  (k_ok 2 q4.2 this).bind fun _ =>
  t_B (fX3_put this (6 : Int32) q4.1 ((p0 <<< ((8 : Int32) &&& 31)) ||| (45 : Int32)) p1 (1 : Int32) (0 : Int32) q4.2) fun x6 h7 =>
  some (.inl (), h7)
theorem pX3_addHyphen {w : eW} {d : Nat} (hd : 9 ≤ d) {this : Nat} {p0 : Int32} {p1 : Int32} {h : eH} {q} (hf : fX3_addHyphen this p0 p1 h = some q) : wm w d YX3_addHyphen [.ref this, .int p0, .int p1] h (e_is (e_rt c_V q)) := by
  obtain ⟨d, rfl⟩ : ∃ e, d = e + 1 := ⟨d - 1, by omega⟩
  show wp w (d + 1) YX3_addHyphen 0 [some (.ref this), some (.int p0), some (.int p1)] [] h _
  unfold fX3_addHyphen at hf
  refine w_aload_n dX3_addHyphen_0 rfl rfl ?_
  refine w_bipush dX3_addHyphen_1 (v := 6) (by decide) ?_
  refine w_aload_n dX3_addHyphen_3 rfl rfl ?_
  obtain ⟨a1, b2, hf⟩ := Option.bind_eq_some_iff.mp hf
  refine GX3_23 b2 dX3_addHyphen_4 rfl ?_
  refine w_iload_n dX3_addHyphen_7 rfl rfl ?_
  refine w_bipush dX3_addHyphen_8 (v := 45) (by decide) ?_
  obtain ⟨_, b3, hf⟩ := Option.bind_eq_some_iff.mp hf
  refine x_cnI hf (e_stV (Yc := YX5_width) (ci := 4) (av := [.int p0, .int (45 : Int32)]) (st := [.int (6 : Int32), .ref this]) dX3_addHyphen_10 q3172 mX5_width rfl (k_ok_some b3).1 (k_ok_some b3).2) mX5_width.2.2.1 mX5_width.2.2.2.2.1 (Nat.le_of_ble_eq_true rfl) (Nat.le_of_ble_eq_true rfl) (fun q hq => pX5_width (by omega) hq) (fun q4 hf => ?_)
  refine w_iload_n dX3_addHyphen_13 rfl rfl ?_
  refine w_bipush dX3_addHyphen_14 (v := 8) (by decide) ?_
  refine w_ishl dX3_addHyphen_16 ?_
  refine w_bipush dX3_addHyphen_17 (v := 45) (by decide) ?_
  refine w_ior dX3_addHyphen_19 ?_
  refine w_iload_n dX3_addHyphen_20 rfl rfl ?_
  refine w_iconst dX3_addHyphen_21 (v := 1) (by decide) ?_
  refine w_iconst dX3_addHyphen_22 (v := 0) (by decide) ?_
  obtain ⟨_, b5, hf⟩ := Option.bind_eq_some_iff.mp hf
  refine x_ctV hf (e_stV (Yc := YX3_put) (ci := 2) (av := [.int (6 : Int32), .int q4.1, .int ((p0 <<< ((8 : Int32) &&& 31)) ||| (45 : Int32)), .int p1, .int (1 : Int32), .int (0 : Int32)]) (st := []) dX3_addHyphen_23 q3177 mX3_put rfl (k_ok_some b5).1 (k_ok_some b5).2) mX3_put.2.2.1 mX3_put.2.2.2.2.1 (Nat.le_of_ble_eq_true rfl) (Nat.le_of_ble_eq_true rfl) rfl (fun q hq => pX3_put (by omega) hq) (fun x6 h7 hf => ?_)
  cases hf
  exact w_vret dX3_addHyphen_26 rfl rfl
