set_option maxRecDepth 100000
set_option maxHeartbeats 4000000
theorem q1244 : (Jvm.Cond.fieldLinkNest "TypeHouse$Pass" (47 : Nat) "TypeHouse$Paragraph" "kinds" "[B" "TypeHouse") ∈ lw_tbl := lw_at lw_m4 99 rfl
theorem q1245 : (Jvm.Cond.fieldLinkNest "TypeHouse$Measure" (38 : Nat) "TypeHouse$Paragraph" "kinds" "[B" "TypeHouse") ∈ lw_tbl := lw_at lw_m4 100 rfl
theorem q1246 : (Jvm.Cond.fieldLinkNest "TypeHouse$Breaker" (83 : Nat) "TypeHouse$Paragraph" "kinds" "[B" "TypeHouse") ∈ lw_tbl := lw_at lw_m4 101 rfl
theorem q1248 : (Jvm.Cond.fieldLinkNest "TypeHouse$Pass" (53 : Nat) "TypeHouse$Paragraph" "a" "[I" "TypeHouse") ∈ lw_tbl := lw_at lw_m4 103 rfl
theorem q1249 : (Jvm.Cond.fieldLinkNest "TypeHouse$Measure" (42 : Nat) "TypeHouse$Paragraph" "a" "[I" "TypeHouse") ∈ lw_tbl := lw_at lw_m4 104 rfl
theorem q1250 : (Jvm.Cond.fieldLinkNest "TypeHouse$Breaker" (87 : Nat) "TypeHouse$Paragraph" "a" "[I" "TypeHouse") ∈ lw_tbl := lw_at lw_m4 105 rfl
theorem q1252 : (Jvm.Cond.fieldLinkNest "TypeHouse$Measure" (51 : Nat) "TypeHouse$Paragraph" "b" "[I" "TypeHouse") ∈ lw_tbl := lw_at lw_m4 107 rfl
theorem q1253 : (Jvm.Cond.fieldLinkNest "TypeHouse$Breaker" (94 : Nat) "TypeHouse$Paragraph" "b" "[I" "TypeHouse") ∈ lw_tbl := lw_at lw_m4 108 rfl
theorem q1255 : (Jvm.Cond.fieldLinkNest "TypeHouse$Measure" (48 : Nat) "TypeHouse$Paragraph" "c" "[I" "TypeHouse") ∈ lw_tbl := lw_at lw_m4 110 rfl
theorem q1257 : (Jvm.Cond.fieldLinkNest "TypeHouse$Measure" (45 : Nat) "TypeHouse$Paragraph" "d" "[I" "TypeHouse") ∈ lw_tbl := lw_at lw_m4 112 rfl
theorem q1258 : (Jvm.Cond.fieldLinkNest "TypeHouse$Breaker" (97 : Nat) "TypeHouse$Paragraph" "d" "[I" "TypeHouse") ∈ lw_tbl := lw_at lw_m4 113 rfl
theorem q1260 : (Jvm.Cond.fieldLinkNest "TypeHouse$Measure" (32 : Nat) "TypeHouse$Paragraph" "size" "I" "TypeHouse") ∈ lw_tbl := lw_at lw_m4 115 rfl
theorem q1262 : (Jvm.Cond.fieldLinkNest "TypeHouse$Pass" (70 : Nat) "TypeHouse$Paragraph" "size" "I" "TypeHouse") ∈ lw_tbl := lw_at lw_m4 117 rfl
theorem q1287 : (Jvm.Cond.fieldLinkNest "TypeHouse$Pass" (57 : Nat) "TypeHouse$Measure" "replaced" "[Z" "TypeHouse") ∈ lw_tbl := lw_at lw_m4 142 rfl
theorem q1291 : (Jvm.Cond.fieldLinkNest "TypeHouse$Breaker" (109 : Nat) "TypeHouse$Measure" "around" "[J" "TypeHouse") ∈ lw_tbl := lw_at lw_m4 146 rfl
theorem q1292 : (Jvm.Cond.fieldLink "TypeHouse$Measure" (65 : Nat) "TypeHouse$Measure" "aroundWidth" "J") ∈ lw_all := lw_g (lw_at lw_m4 147 rfl) rfl
theorem q1293 : (Jvm.Cond.fieldLinkNest "TypeHouse$Breaker" (102 : Nat) "TypeHouse$Measure" "aroundWidth" "J" "TypeHouse") ∈ lw_tbl := lw_at lw_m4 148 rfl
theorem q1294 : (Jvm.Cond.fieldLink "TypeHouse$Measure" (76 : Nat) "TypeHouse$Measure" "aroundShrink" "J") ∈ lw_all := lw_g (lw_at lw_m4 149 rfl) rfl
theorem q1295 : (Jvm.Cond.fieldLinkNest "TypeHouse$Breaker" (106 : Nat) "TypeHouse$Measure" "aroundShrink" "J" "TypeHouse") ∈ lw_tbl := lw_at lw_m4 150 rfl
theorem q1296 : (Jvm.Cond.fieldLink "TypeHouse$Measure" (69 : Nat) "TypeHouse$Measure" "width" "J") ∈ lw_all := lw_g (lw_at lw_m4 151 rfl) rfl
theorem q1297 : (Jvm.Cond.fieldLinkNest "TypeHouse$Pass" (136 : Nat) "TypeHouse$Measure" "width" "J" "TypeHouse") ∈ lw_tbl := lw_at lw_m4 152 rfl
theorem q1298 : (Jvm.Cond.fieldLinkNest "TypeHouse$Fitting" (44 : Nat) "TypeHouse$Measure" "shrink" "J" "TypeHouse") ∈ lw_tbl := lw_at lw_m4 153 rfl
theorem q1299 : (Jvm.Cond.fieldLink "TypeHouse$Measure" (79 : Nat) "TypeHouse$Measure" "shrink" "J") ∈ lw_all := lw_g (lw_at lw_m4 154 rfl) rfl
theorem q1300 : (Jvm.Cond.fieldLinkNest "TypeHouse$Fitting" (27 : Nat) "TypeHouse$Measure" "stretch" "J" "TypeHouse") ∈ lw_tbl := lw_at lw_m4 155 rfl
theorem q1301 : (Jvm.Cond.fieldLink "TypeHouse$Measure" (86 : Nat) "TypeHouse$Measure" "stretch" "J") ∈ lw_all := lw_g (lw_at lw_m4 156 rfl) rfl
theorem q1302 : (Jvm.Cond.fieldLinkNest "TypeHouse$Fitting" (21 : Nat) "TypeHouse$Measure" "endless" "Z" "TypeHouse") ∈ lw_tbl := lw_at lw_m4 157 rfl
theorem q1303 : (Jvm.Cond.fieldLink "TypeHouse$Measure" (89 : Nat) "TypeHouse$Measure" "endless" "Z") ∈ lw_all := lw_g (lw_at lw_m4 158 rfl) rfl
theorem q1342 : (Jvm.Cond.fieldLinkNest "TypeHouse$Pass" (90 : Nat) "TypeHouse$Nodes" "places" "[I" "TypeHouse") ∈ lw_tbl := lw_at lw_m4 197 rfl
theorem q1345 : (Jvm.Cond.fieldLinkNest "TypeHouse$Pass" (99 : Nat) "TypeHouse$Nodes" "lines" "[I" "TypeHouse") ∈ lw_tbl := lw_at lw_m4 200 rfl
theorem q1348 : (Jvm.Cond.fieldLinkNest "TypeHouse$Pass" (93 : Nat) "TypeHouse$Nodes" "fits" "[B" "TypeHouse") ∈ lw_tbl := lw_at lw_m4 203 rfl
theorem q1350 : (Jvm.Cond.fieldLinkNest "TypeHouse$Pass" (102 : Nat) "TypeHouse$Nodes" "totals" "[J" "TypeHouse") ∈ lw_tbl := lw_at lw_m4 205 rfl
theorem q1354 : (Jvm.Cond.fieldLinkNest "TypeHouse$Pass" (154 : Nat) "TypeHouse$Nodes" "nexts" "[I" "TypeHouse") ∈ lw_tbl := lw_at lw_m4 209 rfl
theorem q1355 : (Jvm.Cond.fieldLink "TypeHouse$Nodes" (32 : Nat) "TypeHouse$Nodes" "size" "I") ∈ lw_all := lw_g (lw_at lw_m4 210 rfl) rfl
theorem q1356 : (Jvm.Cond.fieldLinkNest "TypeHouse$Pass" (157 : Nat) "TypeHouse$Nodes" "size" "I" "TypeHouse") ∈ lw_tbl := lw_at lw_m4 211 rfl
theorem q1358 : (Jvm.Cond.fieldLink "TypeHouse$Nodes" (36 : Nat) "TypeHouse$Nodes" "alive" "I") ∈ lw_all := lw_g (lw_at lw_m4 213 rfl) rfl
theorem q1359 : (Jvm.Cond.fieldLinkNest "TypeHouse$Pass" (127 : Nat) "TypeHouse$Nodes" "alive" "I" "TypeHouse") ∈ lw_tbl := lw_at lw_m4 214 rfl
theorem q1383 : (Jvm.Cond.fieldLink "TypeHouse$Fitting" (37 : Nat) "TypeHouse$Fitting" "badness" "I") ∈ lw_all := lw_g (lw_at lw_m4 238 rfl) rfl
theorem q1384 : (Jvm.Cond.fieldLinkNest "TypeHouse$Pass" (78 : Nat) "TypeHouse$Fitting" "badness" "I" "TypeHouse") ∈ lw_tbl := lw_at lw_m4 239 rfl
theorem q1385 : (Jvm.Cond.fieldLink "TypeHouse$Fitting" (41 : Nat) "TypeHouse$Fitting" "fit" "I") ∈ lw_all := lw_g (lw_at lw_m5 0 rfl) rfl
theorem q1386 : (Jvm.Cond.fieldLinkNest "TypeHouse$Pass" (96 : Nat) "TypeHouse$Fitting" "fit" "I" "TypeHouse") ∈ lw_tbl := lw_at lw_m5 1 rfl
theorem q1401 : (Jvm.Cond.fieldLink "TypeHouse$Pass" (74 : Nat) "TypeHouse$Pass" "hyphens" "Z") ∈ lw_all := lw_g (lw_at lw_m5 16 rfl) rfl
theorem q1406 : (Jvm.Cond.fieldLink "TypeHouse$Pass" (144 : Nat) "TypeHouse$Pass" "tolerance" "I") ∈ lw_all := lw_g (lw_at lw_m5 21 rfl) rfl
theorem q1407 : (Jvm.Cond.fieldLink "TypeHouse$Pass" (114 : Nat) "TypeHouse$Pass" "most" "I") ∈ lw_all := lw_g (lw_at lw_m5 22 rfl) rfl
theorem q1408 : (Jvm.Cond.fieldLink "TypeHouse$Pass" (121 : Nat) "TypeHouse$Pass" "least" "I") ∈ lw_all := lw_g (lw_at lw_m5 23 rfl) rfl
theorem q1409 : (Jvm.Cond.fieldLink "TypeHouse$Pass" (111 : Nat) "TypeHouse$Pass" "feasible" "Z") ∈ lw_all := lw_g (lw_at lw_m5 24 rfl) rfl
theorem q1411 : (Jvm.Cond.fieldLink "TypeHouse$Pass" (130 : Nat) "TypeHouse$Pass" "looks" "I") ∈ lw_all := lw_g (lw_at lw_m5 26 rfl) rfl
theorem q1447 : (Jvm.Cond.fieldLinkNest "TypeHouse$Press" (510 : Nat) "TypeHouse$Breaker" "items" "LTypeHouse$Paragraph;" "TypeHouse") ∈ lw_tbl := lw_at lw_m5 62 rfl
theorem q3691 : (Jvm.Cond.instanceMethod ({ cls := "TypeHouse$Press", name := "takeItem", desc := "(LTypeHouse$Lists;I)V" } : Jvm.MethodName)) ∈ lw_all := lw_g (lw_at lw_m14 146 rfl) rfl
theorem q3692 : (Jvm.Cond.code ({ cls := "TypeHouse$Press", name := "takeItem", desc := "(LTypeHouse$Lists;I)V" } : Jvm.MethodName) prog_26_method_32_code (11 : Nat) (Option.none : Option Jvm.ClassFile.FieldType)) ∈ lw_all := lw_g (lw_at lw_m14 147 rfl) rfl
theorem q3693 : (Jvm.Cond.methodLink "TypeHouse$Press" (514 : Nat) ({ cls := "TypeHouse$Paragraph", name := "add", desc := "(IIIII)I" } : Jvm.MethodName)) ∈ lw_all := lw_g (lw_at lw_m14 148 rfl) rfl
theorem q3698 : (Jvm.Cond.instanceMethod ({ cls := "TypeHouse$Breaker", name := "areSizes", desc := "()Z" } : Jvm.MethodName)) ∈ lw_all := lw_g (lw_at lw_m14 153 rfl) rfl
theorem q3699 : (Jvm.Cond.selects "TypeHouse$Breaker" ({ cls := "TypeHouse$Breaker", name := "areSizes", desc := "()Z" } : Jvm.MethodName) ({ cls := "TypeHouse$Breaker", name := "areSizes", desc := "()Z" } : Jvm.MethodName)) ∈ lw_all := lw_g (lw_at lw_m14 154 rfl) rfl
theorem q3700 : (Jvm.Cond.code ({ cls := "TypeHouse$Breaker", name := "areSizes", desc := "()Z" } : Jvm.MethodName) prog_3_method_5_code (9 : Nat) (Option.some Jvm.ClassFile.FieldType.boolean)) ∈ lw_all := lw_g (lw_at lw_m14 155 rfl) rfl
theorem q3701 : (Jvm.Cond.methodLink "TypeHouse$Breaker" (79 : Nat) ({ cls := "TypeHouse$Breaker", name := "plain", desc := "(I)J" } : Jvm.MethodName)) ∈ lw_all := lw_g (lw_at lw_m14 156 rfl) rfl
theorem q3702 : (Jvm.Cond.static ({ cls := "TypeHouse$Breaker", name := "plain", desc := "(I)J" } : Jvm.MethodName)) ∈ lw_all := lw_g (lw_at lw_m14 157 rfl) rfl
theorem q3703 : (Jvm.Cond.code ({ cls := "TypeHouse$Breaker", name := "plain", desc := "(I)J" } : Jvm.MethodName) prog_3_method_4_code (1 : Nat) (Option.some Jvm.ClassFile.FieldType.long)) ∈ lw_all := lw_g (lw_at lw_m14 158 rfl) rfl
theorem q3704 : (Jvm.Cond.methodLinkNest "TypeHouse$Breaker" (90 : Nat) ({ cls := "TypeHouse", name := "solid", desc := "(I)I" } : Jvm.MethodName) "TypeHouse") ∈ lw_tbl := lw_at lw_m14 159 rfl
theorem q3705 : (Jvm.Cond.static ({ cls := "TypeHouse", name := "solid", desc := "(I)I" } : Jvm.MethodName)) ∈ lw_all := lw_g (lw_at lw_m14 160 rfl) rfl
theorem q3706 : (Jvm.Cond.code ({ cls := "TypeHouse", name := "solid", desc := "(I)I" } : Jvm.MethodName) prog_1_method_2_code (1 : Nat) (Option.some Jvm.ClassFile.FieldType.int)) ∈ lw_all := lw_g (lw_at lw_m14 161 rfl) rfl
theorem q3707 : (Jvm.Cond.constant "TypeHouse" (9 : Nat) (-2147483648 : Int32)) ∈ lw_all := lw_g (lw_at lw_m14 162 rfl) rfl
theorem q3708 : (Jvm.Cond.constantLong "TypeHouse$Breaker" (100 : Nat) (1073741823 : Int64)) ∈ lw_all := lw_g (lw_at lw_m14 163 rfl) rfl
theorem q3715 : (Jvm.Cond.instanceMethod ({ cls := "TypeHouse$Measure", name := "take", desc := "(LTypeHouse$Paragraph;)V" } : Jvm.MethodName)) ∈ lw_all := lw_g (lw_at lw_m14 170 rfl) rfl
theorem q3716 : (Jvm.Cond.selects "TypeHouse$Measure" ({ cls := "TypeHouse$Measure", name := "take", desc := "(LTypeHouse$Paragraph;)V" } : Jvm.MethodName) ({ cls := "TypeHouse$Measure", name := "take", desc := "(LTypeHouse$Paragraph;)V" } : Jvm.MethodName)) ∈ lw_all := lw_g (lw_at lw_m14 171 rfl) rfl
theorem q3717 : (Jvm.Cond.code ({ cls := "TypeHouse$Measure", name := "take", desc := "(LTypeHouse$Paragraph;)V" } : Jvm.MethodName) prog_15_method_2_code (7 : Nat) (Option.none : Option Jvm.ClassFile.FieldType)) ∈ lw_all := lw_g (lw_at lw_m14 172 rfl) rfl
theorem q3718 : (Jvm.Cond.methodLink "TypeHouse$Measure" (54 : Nat) ({ cls := "java/lang/Math", name := "max", desc := "(II)I" } : Jvm.MethodName)) ∈ lw_all := lw_g (lw_at lw_m14 173 rfl) rfl
theorem q3719 : (Jvm.Cond.constant "TypeHouse$Measure" (60 : Nat) (-2147483648 : Int32)) ∈ lw_all := lw_g (lw_at lw_m14 174 rfl) rfl
theorem q3720 : (Jvm.Cond.methodLink "TypeHouse$Measure" (61 : Nat) ({ cls := "TypeHouse$Paragraph", name := "isDropped", desc := "(I)Z" } : Jvm.MethodName)) ∈ lw_all := lw_g (lw_at lw_m14 175 rfl) rfl
theorem q3721 : (Jvm.Cond.instanceMethod ({ cls := "TypeHouse$Paragraph", name := "isDropped", desc := "(I)Z" } : Jvm.MethodName)) ∈ lw_all := lw_g (lw_at lw_m14 176 rfl) rfl
theorem q3722 : (Jvm.Cond.selects "TypeHouse$Paragraph" ({ cls := "TypeHouse$Paragraph", name := "isDropped", desc := "(I)Z" } : Jvm.MethodName) ({ cls := "TypeHouse$Paragraph", name := "isDropped", desc := "(I)Z" } : Jvm.MethodName)) ∈ lw_all := lw_g (lw_at lw_m14 177 rfl) rfl
theorem q3723 : (Jvm.Cond.code ({ cls := "TypeHouse$Paragraph", name := "isDropped", desc := "(I)Z" } : Jvm.MethodName) prog_23_method_4_code (2 : Nat) (Option.some Jvm.ClassFile.FieldType.boolean)) ∈ lw_all := lw_g (lw_at lw_m14 178 rfl) rfl
theorem q3726 : (Jvm.Cond.instanceMethod ({ cls := "TypeHouse$Breaker", name := "takeAround", desc := "()V" } : Jvm.MethodName)) ∈ lw_all := lw_g (lw_at lw_m14 181 rfl) rfl
theorem q3727 : (Jvm.Cond.code ({ cls := "TypeHouse$Breaker", name := "takeAround", desc := "()V" } : Jvm.MethodName) prog_3_method_6_code (1 : Nat) (Option.none : Option Jvm.ClassFile.FieldType)) ∈ lw_all := lw_g (lw_at lw_m14 182 rfl) rfl
theorem q3728 : (Jvm.Cond.methodLink "TypeHouse$Breaker" (112 : Nat) ({ cls := "java/util/Arrays", name := "fill", desc := "([JJ)V" } : Jvm.MethodName)) ∈ lw_all := lw_g (lw_at lw_m14 183 rfl) rfl
theorem q3744 : (Jvm.Cond.instanceMethod ({ cls := "TypeHouse$Nodes", name := "begin", desc := "()V" } : Jvm.MethodName)) ∈ lw_all := lw_g (lw_at lw_m14 199 rfl) rfl
theorem q3745 : (Jvm.Cond.selects "TypeHouse$Nodes" ({ cls := "TypeHouse$Nodes", name := "begin", desc := "()V" } : Jvm.MethodName) ({ cls := "TypeHouse$Nodes", name := "begin", desc := "()V" } : Jvm.MethodName)) ∈ lw_all := lw_g (lw_at lw_m14 200 rfl) rfl
theorem q3746 : (Jvm.Cond.code ({ cls := "TypeHouse$Nodes", name := "begin", desc := "()V" } : Jvm.MethodName) prog_18_method_2_code (2 : Nat) (Option.none : Option Jvm.ClassFile.FieldType)) ∈ lw_all := lw_g (lw_at lw_m14 201 rfl) rfl
theorem q3747 : (Jvm.Cond.methodLink "TypeHouse$Nodes" (39 : Nat) ({ cls := "TypeHouse$Nodes", name := "add", desc := "(IIIJI)I" } : Jvm.MethodName)) ∈ lw_all := lw_g (lw_at lw_m14 202 rfl) rfl
theorem q3748 : (Jvm.Cond.instanceMethod ({ cls := "TypeHouse$Nodes", name := "add", desc := "(IIIJI)I" } : Jvm.MethodName)) ∈ lw_all := lw_g (lw_at lw_m14 203 rfl) rfl
theorem q3749 : (Jvm.Cond.selects "TypeHouse$Nodes" ({ cls := "TypeHouse$Nodes", name := "add", desc := "(IIIJI)I" } : Jvm.MethodName) ({ cls := "TypeHouse$Nodes", name := "add", desc := "(IIIJI)I" } : Jvm.MethodName)) ∈ lw_all := lw_g (lw_at lw_m14 204 rfl) rfl
theorem q3750 : (Jvm.Cond.code ({ cls := "TypeHouse$Nodes", name := "add", desc := "(IIIJI)I" } : Jvm.MethodName) prog_18_method_3_code (7 : Nat) (Option.some Jvm.ClassFile.FieldType.int)) ∈ lw_all := lw_g (lw_at lw_m14 205 rfl) rfl
theorem q3753 : (Jvm.Cond.instanceMethod ({ cls := "TypeHouse$Pass", name := "clear", desc := "()V" } : Jvm.MethodName)) ∈ lw_all := lw_g (lw_at lw_m14 208 rfl) rfl
theorem q3754 : (Jvm.Cond.code ({ cls := "TypeHouse$Pass", name := "clear", desc := "()V" } : Jvm.MethodName) prog_24_method_10_code (2 : Nat) (Option.none : Option Jvm.ClassFile.FieldType)) ∈ lw_all := lw_g (lw_at lw_m14 209 rfl) rfl
theorem q3757 : (Jvm.Cond.instanceMethod ({ cls := "TypeHouse$Pass", name := "isPlace", desc := "(I)Z" } : Jvm.MethodName)) ∈ lw_all := lw_g (lw_at lw_m14 212 rfl) rfl
theorem q3758 : (Jvm.Cond.code ({ cls := "TypeHouse$Pass", name := "isPlace", desc := "(I)Z" } : Jvm.MethodName) prog_24_method_4_code (3 : Nat) (Option.some Jvm.ClassFile.FieldType.boolean)) ∈ lw_all := lw_g (lw_at lw_m14 213 rfl) rfl
theorem q3759 : (Jvm.Cond.methodLink "TypeHouse$Pass" (63 : Nat) ({ cls := "TypeHouse$Pass", name := "penaltyOf", desc := "(I)I" } : Jvm.MethodName)) ∈ lw_all := lw_g (lw_at lw_m14 214 rfl) rfl
theorem q3761 : (Jvm.Cond.instanceMethod ({ cls := "TypeHouse$Pass", name := "penaltyOf", desc := "(I)I" } : Jvm.MethodName)) ∈ lw_all := lw_g (lw_at lw_m14 216 rfl) rfl
theorem q3762 : (Jvm.Cond.code ({ cls := "TypeHouse$Pass", name := "penaltyOf", desc := "(I)I" } : Jvm.MethodName) prog_24_method_2_code (3 : Nat) (Option.some Jvm.ClassFile.FieldType.int)) ∈ lw_all := lw_g (lw_at lw_m14 217 rfl) rfl
theorem q3763 : (Jvm.Cond.constant "TypeHouse$Pass" (56 : Nat) (-2147483648 : Int32)) ∈ lw_all := lw_g (lw_at lw_m14 218 rfl) rfl
theorem q3764 : (Jvm.Cond.methodLink "TypeHouse$Pass" (67 : Nat) ({ cls := "TypeHouse$Pass", name := "before", desc := "(I)I" } : Jvm.MethodName)) ∈ lw_all := lw_g (lw_at lw_m14 219 rfl) rfl
theorem q3766 : (Jvm.Cond.instanceMethod ({ cls := "TypeHouse$Pass", name := "before", desc := "(I)I" } : Jvm.MethodName)) ∈ lw_all := lw_g (lw_at lw_m14 221 rfl) rfl
theorem q3767 : (Jvm.Cond.code ({ cls := "TypeHouse$Pass", name := "before", desc := "(I)I" } : Jvm.MethodName) prog_24_method_3_code (3 : Nat) (Option.some Jvm.ClassFile.FieldType.int)) ∈ lw_all := lw_g (lw_at lw_m14 222 rfl) rfl
theorem q3770 : (Jvm.Cond.instanceMethod ({ cls := "TypeHouse$Pass", name := "goThrough", desc := "(I)I" } : Jvm.MethodName)) ∈ lw_all := lw_g (lw_at lw_m14 225 rfl) rfl
theorem q3771 : (Jvm.Cond.code ({ cls := "TypeHouse$Pass", name := "goThrough", desc := "(I)I" } : Jvm.MethodName) prog_24_method_8_code (7 : Nat) (Option.some Jvm.ClassFile.FieldType.int)) ∈ lw_all := lw_g (lw_at lw_m14 226 rfl) rfl
theorem q3772 : (Jvm.Cond.methodLink "TypeHouse$Pass" (133 : Nat) ({ cls := "TypeHouse$Measure", name := "measure", desc := "(LTypeHouse$Paragraph;II)V" } : Jvm.MethodName)) ∈ lw_all := lw_g (lw_at lw_m14 227 rfl) rfl
theorem q3773 : (Jvm.Cond.instanceMethod ({ cls := "TypeHouse$Measure", name := "measure", desc := "(LTypeHouse$Paragraph;II)V" } : Jvm.MethodName)) ∈ lw_all := lw_g (lw_at lw_m14 228 rfl) rfl
theorem q3774 : (Jvm.Cond.selects "TypeHouse$Measure" ({ cls := "TypeHouse$Measure", name := "measure", desc := "(LTypeHouse$Paragraph;II)V" } : Jvm.MethodName) ({ cls := "TypeHouse$Measure", name := "measure", desc := "(LTypeHouse$Paragraph;II)V" } : Jvm.MethodName)) ∈ lw_all := lw_g (lw_at lw_m14 229 rfl) rfl
theorem q3775 : (Jvm.Cond.code ({ cls := "TypeHouse$Measure", name := "measure", desc := "(LTypeHouse$Paragraph;II)V" } : Jvm.MethodName) prog_15_method_3_code (7 : Nat) (Option.none : Option Jvm.ClassFile.FieldType)) ∈ lw_all := lw_g (lw_at lw_m14 230 rfl) rfl
theorem q3776 : (Jvm.Cond.methodLinkNest "TypeHouse$Measure" (72 : Nat) ({ cls := "TypeHouse", name := "solid", desc := "(I)I" } : Jvm.MethodName) "TypeHouse") ∈ lw_tbl := lw_at lw_m14 231 rfl
theorem q3777 : (Jvm.Cond.methodLink "TypeHouse$Measure" (82 : Nat) ({ cls := "TypeHouse$Measure", name := "stretched", desc := "(III)J" } : Jvm.MethodName)) ∈ lw_all := lw_g (lw_at lw_m14 232 rfl) rfl
theorem q3779 : (Jvm.Cond.instanceMethod ({ cls := "TypeHouse$Measure", name := "stretched", desc := "(III)J" } : Jvm.MethodName)) ∈ lw_all := lw_g (lw_at lw_m14 234 rfl) rfl
theorem q3780 : (Jvm.Cond.code ({ cls := "TypeHouse$Measure", name := "stretched", desc := "(III)J" } : Jvm.MethodName) prog_15_method_4_code (4 : Nat) (Option.some Jvm.ClassFile.FieldType.long)) ∈ lw_all := lw_g (lw_at lw_m14 235 rfl) rfl
theorem q3781 : (Jvm.Cond.methodLink "TypeHouse$Pass" (124 : Nat) ({ cls := "java/lang/Math", name := "min", desc := "(II)I" } : Jvm.MethodName)) ∈ lw_all := lw_g (lw_at lw_m14 236 rfl) rfl
theorem q3782 : (Jvm.Cond.methodLink "TypeHouse$Pass" (140 : Nat) ({ cls := "TypeHouse$Fitting", name := "weigh", desc := "(JLTypeHouse$Measure;)V" } : Jvm.MethodName)) ∈ lw_all := lw_g (lw_at lw_m14 237 rfl) rfl
theorem q3783 : (Jvm.Cond.instanceMethod ({ cls := "TypeHouse$Fitting", name := "weigh", desc := "(JLTypeHouse$Measure;)V" } : Jvm.MethodName)) ∈ lw_all := lw_g (lw_at lw_m14 238 rfl) rfl
theorem q3784 : (Jvm.Cond.selects "TypeHouse$Fitting" ({ cls := "TypeHouse$Fitting", name := "weigh", desc := "(JLTypeHouse$Measure;)V" } : Jvm.MethodName) ({ cls := "TypeHouse$Fitting", name := "weigh", desc := "(JLTypeHouse$Measure;)V" } : Jvm.MethodName)) ∈ lw_all := lw_g (lw_at lw_m14 239 rfl) rfl
theorem q3785 : (Jvm.Cond.code ({ cls := "TypeHouse$Fitting", name := "weigh", desc := "(JLTypeHouse$Measure;)V" } : Jvm.MethodName) prog_6_method_3_code (5 : Nat) (Option.none : Option Jvm.ClassFile.FieldType)) ∈ lw_all := lw_g (lw_at lw_m15 0 rfl) rfl
theorem q3786 : (Jvm.Cond.methodLink "TypeHouse$Fitting" (31 : Nat) ({ cls := "TypeHouse$Fitting", name := "bad", desc := "(JJ)I" } : Jvm.MethodName)) ∈ lw_all := lw_g (lw_at lw_m15 1 rfl) rfl
theorem q3787 : (Jvm.Cond.static ({ cls := "TypeHouse$Fitting", name := "bad", desc := "(JJ)I" } : Jvm.MethodName)) ∈ lw_all := lw_g (lw_at lw_m15 2 rfl) rfl
theorem q3788 : (Jvm.Cond.code ({ cls := "TypeHouse$Fitting", name := "bad", desc := "(JJ)I" } : Jvm.MethodName) prog_6_method_2_code (6 : Nat) (Option.some Jvm.ClassFile.FieldType.int)) ∈ lw_all := lw_g (lw_at lw_m15 3 rfl) rfl
theorem q3789 : (Jvm.Cond.constantLong "TypeHouse$Fitting" (9 : Nat) (7230584 : Int64)) ∈ lw_all := lw_g (lw_at lw_m15 4 rfl) rfl
theorem q3790 : (Jvm.Cond.constantLong "TypeHouse$Fitting" (11 : Nat) (297 : Int64)) ∈ lw_all := lw_g (lw_at lw_m15 5 rfl) rfl
theorem q3791 : (Jvm.Cond.constantLong "TypeHouse$Fitting" (13 : Nat) (1663497 : Int64)) ∈ lw_all := lw_g (lw_at lw_m15 6 rfl) rfl
theorem q3792 : (Jvm.Cond.constantLong "TypeHouse$Fitting" (15 : Nat) (1290 : Int64)) ∈ lw_all := lw_g (lw_at lw_m15 7 rfl) rfl
theorem q3793 : (Jvm.Cond.constantLong "TypeHouse$Fitting" (17 : Nat) (131072 : Int64)) ∈ lw_all := lw_g (lw_at lw_m15 8 rfl) rfl
theorem q3794 : (Jvm.Cond.constantLong "TypeHouse$Fitting" (19 : Nat) (262144 : Int64)) ∈ lw_all := lw_g (lw_at lw_m15 9 rfl) rfl
theorem q3795 : (Jvm.Cond.methodLink "TypeHouse$Pass" (147 : Nat) ({ cls := "TypeHouse$Pass", name := "offer", desc := "(II)V" } : Jvm.MethodName)) ∈ lw_all := lw_g (lw_at lw_m15 10 rfl) rfl
theorem q3797 : (Jvm.Cond.instanceMethod ({ cls := "TypeHouse$Pass", name := "offer", desc := "(II)V" } : Jvm.MethodName)) ∈ lw_all := lw_g (lw_at lw_m15 12 rfl) rfl
theorem q3798 : (Jvm.Cond.code ({ cls := "TypeHouse$Pass", name := "offer", desc := "(II)V" } : Jvm.MethodName) prog_24_method_6_code (7 : Nat) (Option.none : Option Jvm.ClassFile.FieldType)) ∈ lw_all := lw_g (lw_at lw_m15 13 rfl) rfl
theorem q3799 : (Jvm.Cond.methodLink "TypeHouse$Pass" (103 : Nat) ({ cls := "TypeHouse$Pass", name := "demerits", desc := "(II)J" } : Jvm.MethodName)) ∈ lw_all := lw_g (lw_at lw_m15 14 rfl) rfl
theorem q3801 : (Jvm.Cond.instanceMethod ({ cls := "TypeHouse$Pass", name := "demerits", desc := "(II)J" } : Jvm.MethodName)) ∈ lw_all := lw_g (lw_at lw_m15 16 rfl) rfl
theorem q3802 : (Jvm.Cond.code ({ cls := "TypeHouse$Pass", name := "demerits", desc := "(II)J" } : Jvm.MethodName) prog_24_method_5_code (9 : Nat) (Option.some Jvm.ClassFile.FieldType.long)) ∈ lw_all := lw_g (lw_at lw_m15 17 rfl) rfl
theorem q3803 : (Jvm.Cond.methodLink "TypeHouse$Pass" (81 : Nat) ({ cls := "java/lang/Math", name := "abs", desc := "(I)I" } : Jvm.MethodName)) ∈ lw_all := lw_g (lw_at lw_m15 18 rfl) rfl
theorem q3804 : (Jvm.Cond.static ({ cls := "java/lang/Math", name := "abs", desc := "(I)I" } : Jvm.MethodName)) ∈ lw_all := lw_g (lw_at lw_m15 19 rfl) rfl
theorem q3805 : (Jvm.Cond.code ({ cls := "java/lang/Math", name := "abs", desc := "(I)I" } : Jvm.MethodName) prog_49_method_59_code (1 : Nat) (Option.some Jvm.ClassFile.FieldType.int)) ∈ lw_all := lw_g (lw_at lw_m15 20 rfl) rfl
theorem q3806 : (Jvm.Cond.constantLong "TypeHouse$Pass" (86 : Nat) (100000000 : Int64)) ∈ lw_all := lw_g (lw_at lw_m15 21 rfl) rfl
theorem q3807 : (Jvm.Cond.constantLong "TypeHouse$Pass" (88 : Nat) (-10000 : Int64)) ∈ lw_all := lw_g (lw_at lw_m15 22 rfl) rfl
theorem q3808 : (Jvm.Cond.methodLink "TypeHouse$Pass" (107 : Nat) ({ cls := "TypeHouse$Nodes", name := "isBetter", desc := "(II)Z" } : Jvm.MethodName)) ∈ lw_all := lw_g (lw_at lw_m15 23 rfl) rfl
theorem q3809 : (Jvm.Cond.instanceMethod ({ cls := "TypeHouse$Nodes", name := "isBetter", desc := "(II)Z" } : Jvm.MethodName)) ∈ lw_all := lw_g (lw_at lw_m15 24 rfl) rfl
theorem q3810 : (Jvm.Cond.selects "TypeHouse$Nodes" ({ cls := "TypeHouse$Nodes", name := "isBetter", desc := "(II)Z" } : Jvm.MethodName) ({ cls := "TypeHouse$Nodes", name := "isBetter", desc := "(II)Z" } : Jvm.MethodName)) ∈ lw_all := lw_g (lw_at lw_m15 25 rfl) rfl
theorem q3811 : (Jvm.Cond.code ({ cls := "TypeHouse$Nodes", name := "isBetter", desc := "(II)Z" } : Jvm.MethodName) prog_18_method_4_code (3 : Nat) (Option.some Jvm.ClassFile.FieldType.boolean)) ∈ lw_all := lw_g (lw_at lw_m15 26 rfl) rfl
theorem q3812 : (Jvm.Cond.methodLink "TypeHouse$Pass" (117 : Nat) ({ cls := "java/lang/Math", name := "max", desc := "(II)I" } : Jvm.MethodName)) ∈ lw_all := lw_g (lw_at lw_m15 27 rfl) rfl
theorem q3813 : (Jvm.Cond.methodLink "TypeHouse$Pass" (151 : Nat) ({ cls := "TypeHouse$Pass", name := "isLater", desc := "(II)Z" } : Jvm.MethodName)) ∈ lw_all := lw_g (lw_at lw_m15 28 rfl) rfl
theorem q3815 : (Jvm.Cond.instanceMethod ({ cls := "TypeHouse$Pass", name := "isLater", desc := "(II)Z" } : Jvm.MethodName)) ∈ lw_all := lw_g (lw_at lw_m15 30 rfl) rfl
theorem q3816 : (Jvm.Cond.code ({ cls := "TypeHouse$Pass", name := "isLater", desc := "(II)Z" } : Jvm.MethodName) prog_24_method_7_code (3 : Nat) (Option.some Jvm.ClassFile.FieldType.boolean)) ∈ lw_all := lw_g (lw_at lw_m15 31 rfl) rfl
theorem q3817 : (Jvm.Cond.methodLink "TypeHouse$Pass" (158 : Nat) ({ cls := "TypeHouse$Nodes", name := "add", desc := "(IIIJI)I" } : Jvm.MethodName)) ∈ lw_all := lw_g (lw_at lw_m15 32 rfl) rfl
theorem q3820 : (Jvm.Cond.instanceMethod ({ cls := "TypeHouse$Pass", name := "makeNodes", desc := "(I)Z" } : Jvm.MethodName)) ∈ lw_all := lw_g (lw_at lw_m15 35 rfl) rfl
theorem q3821 : (Jvm.Cond.code ({ cls := "TypeHouse$Pass", name := "makeNodes", desc := "(I)Z" } : Jvm.MethodName) prog_24_method_9_code (6 : Nat) (Option.some Jvm.ClassFile.FieldType.boolean)) ∈ lw_all := lw_g (lw_at lw_m15 36 rfl) rfl
abbrev cX3_takeItem : ByteArray := prog_26_method_32_code
def yX3_takeItem : MethodName := ⟨RX3, "takeItem", "(LTypeHouse$Lists;I)V"⟩
def YX3_takeItem : eY := (yX3_takeItem, cX3_takeItem, 11, none, [])
theorem mX3_takeItem : e_mv YX3_takeItem RX3 2 := ⟨q3691, qs162, q3692, by decide, by decide +kernel, (e_sig (by decide +kernel))⟩
theorem dX3_takeItem_0 : decode cX3_takeItem 0 = .ok (.aload_n 0, 1) := dc_42 (by decide +kernel)
theorem dX3_takeItem_1 : decode cX3_takeItem 1 = .ok (.getfield 87, 3) := dc_180 (a := 0) (b := 87) (n := 87) (by decide +kernel)
theorem dX3_takeItem_4 : decode cX3_takeItem 4 = .ok (.getfield 510, 3) := dc_180 (a := 1) (b := 254) (n := 510) (by decide +kernel)
theorem dX3_takeItem_7 : decode cX3_takeItem 7 = .ok (.astore_n 3, 1) := dc_78 (by decide +kernel)
theorem dX3_takeItem_8 : decode cX3_takeItem 8 = .ok (.aload_n 1, 1) := dc_43 (by decide +kernel)
theorem dX3_takeItem_9 : decode cX3_takeItem 9 = .ok (.iload_n 2, 1) := dc_28 (by decide +kernel)
theorem dX3_takeItem_10 : decode cX3_takeItem 10 = .ok (.invokevirtual 359, 3) := dc_182 (a := 1) (b := 103) (n := 359) (by decide +kernel)
theorem dX3_takeItem_13 : decode cX3_takeItem 13 = .ok (.tableswitch 206 0 5 #[39, 58, 120, 154, 93, 187], 39) := by decide +kernel
theorem dX3_takeItem_52 : decode cX3_takeItem 52 = .ok (.aload_n 3, 1) := dc_45 (by decide +kernel)
theorem dX3_takeItem_53 : decode cX3_takeItem 53 = .ok (.iconst 0, 1) := dc_3 (by decide +kernel)
theorem dX3_takeItem_54 : decode cX3_takeItem 54 = .ok (.aload_n 1, 1) := dc_43 (by decide +kernel)
theorem dX3_takeItem_55 : decode cX3_takeItem 55 = .ok (.iload_n 2, 1) := dc_28 (by decide +kernel)
theorem dX3_takeItem_56 : decode cX3_takeItem 56 = .ok (.iconst 1, 1) := dc_4 (by decide +kernel)
theorem dX3_takeItem_57 : decode cX3_takeItem 57 = .ok (.invokevirtual 363, 3) := dc_182 (a := 1) (b := 107) (n := 363) (by decide +kernel)
theorem dX3_takeItem_60 : decode cX3_takeItem 60 = .ok (.iconst 0, 1) := dc_3 (by decide +kernel)
theorem dX3_takeItem_61 : decode cX3_takeItem 61 = .ok (.iconst 0, 1) := dc_3 (by decide +kernel)
theorem dX3_takeItem_62 : decode cX3_takeItem 62 = .ok (.iconst 0, 1) := dc_3 (by decide +kernel)
theorem dX3_takeItem_63 : decode cX3_takeItem 63 = .ok (.invokevirtual 514, 3) := dc_182 (a := 2) (b := 2) (n := 514) (by decide +kernel)
theorem dX3_takeItem_66 : decode cX3_takeItem 66 = .ok (.istore 4, 2) := dc_54 (a := 4) (by decide +kernel)
theorem dX3_takeItem_68 : decode cX3_takeItem 68 = .ok (.goto 188, 3) := dc_167 (a := 0) (b := 188) (v := 188) (by decide +kernel)
theorem dX3_takeItem_71 : decode cX3_takeItem 71 = .ok (.aload_n 3, 1) := dc_45 (by decide +kernel)
theorem dX3_takeItem_72 : decode cX3_takeItem 72 = .ok (.iconst 0, 1) := dc_3 (by decide +kernel)
theorem dX3_takeItem_73 : decode cX3_takeItem 73 = .ok (.aload_n 1, 1) := dc_43 (by decide +kernel)
theorem dX3_takeItem_74 : decode cX3_takeItem 74 = .ok (.iload_n 2, 1) := dc_28 (by decide +kernel)
theorem dX3_takeItem_75 : decode cX3_takeItem 75 = .ok (.iconst 0, 1) := dc_3 (by decide +kernel)
theorem dX3_takeItem_76 : decode cX3_takeItem 76 = .ok (.invokevirtual 363, 3) := dc_182 (a := 1) (b := 107) (n := 363) (by decide +kernel)
theorem dX3_takeItem_79 : decode cX3_takeItem 79 = .ok (.ldc_w 326, 3) := dc_19 (a := 1) (b := 70) (n := 326) (by decide +kernel)
theorem dX3_takeItem_82 : decode cX3_takeItem 82 = .ok (.if_icmp .ne 7, 3) := dc_160 (a := 0) (b := 7) (v := 7) (by decide +kernel)
theorem dX3_takeItem_85 : decode cX3_takeItem 85 = .ok (.iconst 0, 1) := dc_3 (by decide +kernel)
theorem dX3_takeItem_86 : decode cX3_takeItem 86 = .ok (.goto 9, 3) := dc_167 (a := 0) (b := 9) (v := 9) (by decide +kernel)
theorem dX3_takeItem_89 : decode cX3_takeItem 89 = .ok (.aload_n 1, 1) := dc_43 (by decide +kernel)
theorem dX3_takeItem_90 : decode cX3_takeItem 90 = .ok (.iload_n 2, 1) := dc_28 (by decide +kernel)
theorem dX3_takeItem_91 : decode cX3_takeItem 91 = .ok (.iconst 0, 1) := dc_3 (by decide +kernel)
theorem dX3_takeItem_92 : decode cX3_takeItem 92 = .ok (.invokevirtual 363, 3) := dc_182 (a := 1) (b := 107) (n := 363) (by decide +kernel)
theorem dX3_takeItem_95 : decode cX3_takeItem 95 = .ok (.iconst 0, 1) := dc_3 (by decide +kernel)
theorem dX3_takeItem_96 : decode cX3_takeItem 96 = .ok (.iconst 0, 1) := dc_3 (by decide +kernel)
theorem dX3_takeItem_97 : decode cX3_takeItem 97 = .ok (.iconst 0, 1) := dc_3 (by decide +kernel)
theorem dX3_takeItem_98 : decode cX3_takeItem 98 = .ok (.invokevirtual 514, 3) := dc_182 (a := 2) (b := 2) (n := 514) (by decide +kernel)
theorem dX3_takeItem_101 : decode cX3_takeItem 101 = .ok (.istore 5, 2) := dc_54 (a := 5) (by decide +kernel)
theorem dX3_takeItem_103 : decode cX3_takeItem 103 = .ok (.goto 153, 3) := dc_167 (a := 0) (b := 153) (v := 153) (by decide +kernel)
theorem dX3_takeItem_106 : decode cX3_takeItem 106 = .ok (.aload_n 3, 1) := dc_45 (by decide +kernel)
theorem dX3_takeItem_107 : decode cX3_takeItem 107 = .ok (.iconst 0, 1) := dc_3 (by decide +kernel)
theorem dX3_takeItem_108 : decode cX3_takeItem 108 = .ok (.aload_n 0, 1) := dc_42 (by decide +kernel)
theorem dX3_takeItem_109 : decode cX3_takeItem 109 = .ok (.getfield 36, 3) := dc_180 (a := 0) (b := 36) (n := 36) (by decide +kernel)
theorem dX3_takeItem_112 : decode cX3_takeItem 112 = .ok (.aload_n 1, 1) := dc_43 (by decide +kernel)
theorem dX3_takeItem_113 : decode cX3_takeItem 113 = .ok (.iload_n 2, 1) := dc_28 (by decide +kernel)
theorem dX3_takeItem_114 : decode cX3_takeItem 114 = .ok (.iconst 0, 1) := dc_3 (by decide +kernel)
theorem dX3_takeItem_115 : decode cX3_takeItem 115 = .ok (.invokevirtual 363, 3) := dc_182 (a := 1) (b := 107) (n := 363) (by decide +kernel)
theorem dX3_takeItem_118 : decode cX3_takeItem 118 = .ok (.aaload, 1) := dc_50 (by decide +kernel)
theorem dX3_takeItem_119 : decode cX3_takeItem 119 = .ok (.getfield 519, 3) := dc_180 (a := 2) (b := 7) (n := 519) (by decide +kernel)
theorem dX3_takeItem_122 : decode cX3_takeItem 122 = .ok (.iconst 0, 1) := dc_3 (by decide +kernel)
theorem dX3_takeItem_123 : decode cX3_takeItem 123 = .ok (.iconst 0, 1) := dc_3 (by decide +kernel)
theorem dX3_takeItem_124 : decode cX3_takeItem 124 = .ok (.iconst 0, 1) := dc_3 (by decide +kernel)
theorem dX3_takeItem_125 : decode cX3_takeItem 125 = .ok (.invokevirtual 514, 3) := dc_182 (a := 2) (b := 2) (n := 514) (by decide +kernel)
theorem dX3_takeItem_128 : decode cX3_takeItem 128 = .ok (.istore 6, 2) := dc_54 (a := 6) (by decide +kernel)
theorem dX3_takeItem_130 : decode cX3_takeItem 130 = .ok (.goto 126, 3) := dc_167 (a := 0) (b := 126) (v := 126) (by decide +kernel)
theorem dX3_takeItem_133 : decode cX3_takeItem 133 = .ok (.aload_n 3, 1) := dc_45 (by decide +kernel)
theorem dX3_takeItem_134 : decode cX3_takeItem 134 = .ok (.iconst 1, 1) := dc_4 (by decide +kernel)
theorem dX3_takeItem_135 : decode cX3_takeItem 135 = .ok (.aload_n 1, 1) := dc_43 (by decide +kernel)
theorem dX3_takeItem_136 : decode cX3_takeItem 136 = .ok (.iload_n 2, 1) := dc_28 (by decide +kernel)
theorem dX3_takeItem_137 : decode cX3_takeItem 137 = .ok (.iconst 0, 1) := dc_3 (by decide +kernel)
theorem dX3_takeItem_138 : decode cX3_takeItem 138 = .ok (.invokevirtual 363, 3) := dc_182 (a := 1) (b := 107) (n := 363) (by decide +kernel)
theorem dX3_takeItem_141 : decode cX3_takeItem 141 = .ok (.aload_n 1, 1) := dc_43 (by decide +kernel)
theorem dX3_takeItem_142 : decode cX3_takeItem 142 = .ok (.iload_n 2, 1) := dc_28 (by decide +kernel)
theorem dX3_takeItem_143 : decode cX3_takeItem 143 = .ok (.iconst 1, 1) := dc_4 (by decide +kernel)
theorem dX3_takeItem_144 : decode cX3_takeItem 144 = .ok (.invokevirtual 363, 3) := dc_182 (a := 1) (b := 107) (n := 363) (by decide +kernel)
theorem dX3_takeItem_147 : decode cX3_takeItem 147 = .ok (.aload_n 1, 1) := dc_43 (by decide +kernel)
theorem dX3_takeItem_148 : decode cX3_takeItem 148 = .ok (.iload_n 2, 1) := dc_28 (by decide +kernel)
theorem dX3_takeItem_149 : decode cX3_takeItem 149 = .ok (.iconst 2, 1) := dc_5 (by decide +kernel)
theorem dX3_takeItem_150 : decode cX3_takeItem 150 = .ok (.invokevirtual 363, 3) := dc_182 (a := 1) (b := 107) (n := 363) (by decide +kernel)
theorem dX3_takeItem_153 : decode cX3_takeItem 153 = .ok (.aload_n 1, 1) := dc_43 (by decide +kernel)
theorem dX3_takeItem_154 : decode cX3_takeItem 154 = .ok (.iload_n 2, 1) := dc_28 (by decide +kernel)
theorem dX3_takeItem_155 : decode cX3_takeItem 155 = .ok (.iconst 3, 1) := dc_6 (by decide +kernel)
theorem dX3_takeItem_156 : decode cX3_takeItem 156 = .ok (.invokevirtual 363, 3) := dc_182 (a := 1) (b := 107) (n := 363) (by decide +kernel)
theorem dX3_takeItem_159 : decode cX3_takeItem 159 = .ok (.invokevirtual 514, 3) := dc_182 (a := 2) (b := 2) (n := 514) (by decide +kernel)
theorem dX3_takeItem_162 : decode cX3_takeItem 162 = .ok (.istore 7, 2) := dc_54 (a := 7) (by decide +kernel)
theorem dX3_takeItem_164 : decode cX3_takeItem 164 = .ok (.goto 92, 3) := dc_167 (a := 0) (b := 92) (v := 92) (by decide +kernel)
theorem dX3_takeItem_167 : decode cX3_takeItem 167 = .ok (.aload_n 3, 1) := dc_45 (by decide +kernel)
theorem dX3_takeItem_168 : decode cX3_takeItem 168 = .ok (.aload_n 1, 1) := dc_43 (by decide +kernel)
theorem dX3_takeItem_169 : decode cX3_takeItem 169 = .ok (.iload_n 2, 1) := dc_28 (by decide +kernel)
theorem dX3_takeItem_170 : decode cX3_takeItem 170 = .ok (.iconst 1, 1) := dc_4 (by decide +kernel)
theorem dX3_takeItem_171 : decode cX3_takeItem 171 = .ok (.invokevirtual 363, 3) := dc_182 (a := 1) (b := 107) (n := 363) (by decide +kernel)
theorem dX3_takeItem_174 : decode cX3_takeItem 174 = .ok (.iconst 1, 1) := dc_4 (by decide +kernel)
theorem dX3_takeItem_175 : decode cX3_takeItem 175 = .ok (.if_icmp .ne 7, 3) := dc_160 (a := 0) (b := 7) (v := 7) (by decide +kernel)
theorem dX3_takeItem_178 : decode cX3_takeItem 178 = .ok (.iconst 3, 1) := dc_6 (by decide +kernel)
theorem dX3_takeItem_179 : decode cX3_takeItem 179 = .ok (.goto 4, 3) := dc_167 (a := 0) (b := 4) (v := 4) (by decide +kernel)
theorem dX3_takeItem_182 : decode cX3_takeItem 182 = .ok (.iconst 2, 1) := dc_5 (by decide +kernel)
theorem dX3_takeItem_183 : decode cX3_takeItem 183 = .ok (.aload_n 1, 1) := dc_43 (by decide +kernel)
theorem dX3_takeItem_184 : decode cX3_takeItem 184 = .ok (.iload_n 2, 1) := dc_28 (by decide +kernel)
theorem dX3_takeItem_185 : decode cX3_takeItem 185 = .ok (.iconst 0, 1) := dc_3 (by decide +kernel)
theorem dX3_takeItem_186 : decode cX3_takeItem 186 = .ok (.invokevirtual 363, 3) := dc_182 (a := 1) (b := 107) (n := 363) (by decide +kernel)
theorem dX3_takeItem_189 : decode cX3_takeItem 189 = .ok (.iconst 0, 1) := dc_3 (by decide +kernel)
theorem dX3_takeItem_190 : decode cX3_takeItem 190 = .ok (.iconst 0, 1) := dc_3 (by decide +kernel)
theorem dX3_takeItem_191 : decode cX3_takeItem 191 = .ok (.iconst 0, 1) := dc_3 (by decide +kernel)
theorem dX3_takeItem_192 : decode cX3_takeItem 192 = .ok (.invokevirtual 514, 3) := dc_182 (a := 2) (b := 2) (n := 514) (by decide +kernel)
theorem dX3_takeItem_195 : decode cX3_takeItem 195 = .ok (.istore 8, 2) := dc_54 (a := 8) (by decide +kernel)
theorem dX3_takeItem_197 : decode cX3_takeItem 197 = .ok (.goto 59, 3) := dc_167 (a := 0) (b := 59) (v := 59) (by decide +kernel)
theorem dX3_takeItem_200 : decode cX3_takeItem 200 = .ok (.aload_n 3, 1) := dc_45 (by decide +kernel)
theorem dX3_takeItem_201 : decode cX3_takeItem 201 = .ok (.iconst 4, 1) := dc_7 (by decide +kernel)
theorem dX3_takeItem_202 : decode cX3_takeItem 202 = .ok (.aload_n 1, 1) := dc_43 (by decide +kernel)
theorem dX3_takeItem_203 : decode cX3_takeItem 203 = .ok (.iload_n 2, 1) := dc_28 (by decide +kernel)
theorem dX3_takeItem_204 : decode cX3_takeItem 204 = .ok (.iconst 0, 1) := dc_3 (by decide +kernel)
theorem dX3_takeItem_205 : decode cX3_takeItem 205 = .ok (.invokevirtual 363, 3) := dc_182 (a := 1) (b := 107) (n := 363) (by decide +kernel)
theorem dX3_takeItem_208 : decode cX3_takeItem 208 = .ok (.iconst 0, 1) := dc_3 (by decide +kernel)
theorem dX3_takeItem_209 : decode cX3_takeItem 209 = .ok (.iconst 0, 1) := dc_3 (by decide +kernel)
theorem dX3_takeItem_210 : decode cX3_takeItem 210 = .ok (.iconst 0, 1) := dc_3 (by decide +kernel)
theorem dX3_takeItem_211 : decode cX3_takeItem 211 = .ok (.invokevirtual 514, 3) := dc_182 (a := 2) (b := 2) (n := 514) (by decide +kernel)
theorem dX3_takeItem_214 : decode cX3_takeItem 214 = .ok (.istore 9, 2) := dc_54 (a := 9) (by decide +kernel)
theorem dX3_takeItem_216 : decode cX3_takeItem 216 = .ok (.goto 40, 3) := dc_167 (a := 0) (b := 40) (v := 40) (by decide +kernel)
theorem dX3_takeItem_219 : decode cX3_takeItem 219 = .ok (.aload_n 3, 1) := dc_45 (by decide +kernel)
theorem dX3_takeItem_220 : decode cX3_takeItem 220 = .ok (.iconst 5, 1) := dc_8 (by decide +kernel)
theorem dX3_takeItem_221 : decode cX3_takeItem 221 = .ok (.aload_n 1, 1) := dc_43 (by decide +kernel)
theorem dX3_takeItem_222 : decode cX3_takeItem 222 = .ok (.iload_n 2, 1) := dc_28 (by decide +kernel)
theorem dX3_takeItem_223 : decode cX3_takeItem 223 = .ok (.iconst 3, 1) := dc_6 (by decide +kernel)
theorem dX3_takeItem_224 : decode cX3_takeItem 224 = .ok (.invokevirtual 363, 3) := dc_182 (a := 1) (b := 107) (n := 363) (by decide +kernel)
theorem dX3_takeItem_227 : decode cX3_takeItem 227 = .ok (.iconst 1, 1) := dc_4 (by decide +kernel)
theorem dX3_takeItem_228 : decode cX3_takeItem 228 = .ok (.if_icmp .ne 12, 3) := dc_160 (a := 0) (b := 12) (v := 12) (by decide +kernel)
theorem dX3_takeItem_231 : decode cX3_takeItem 231 = .ok (.aload_n 1, 1) := dc_43 (by decide +kernel)
theorem dX3_takeItem_232 : decode cX3_takeItem 232 = .ok (.iload_n 2, 1) := dc_28 (by decide +kernel)
theorem dX3_takeItem_233 : decode cX3_takeItem 233 = .ok (.iconst 0, 1) := dc_3 (by decide +kernel)
theorem dX3_takeItem_234 : decode cX3_takeItem 234 = .ok (.invokevirtual 363, 3) := dc_182 (a := 1) (b := 107) (n := 363) (by decide +kernel)
theorem dX3_takeItem_237 : decode cX3_takeItem 237 = .ok (.goto 5, 3) := dc_167 (a := 0) (b := 5) (v := 5) (by decide +kernel)
theorem dX3_takeItem_240 : decode cX3_takeItem 240 = .ok (.ldc 214, 2) := dc_18 (a := 214) (by decide +kernel)
theorem dX3_takeItem_242 : decode cX3_takeItem 242 = .ok (.ldc 214, 2) := dc_18 (a := 214) (by decide +kernel)
theorem dX3_takeItem_244 : decode cX3_takeItem 244 = .ok (.aload_n 1, 1) := dc_43 (by decide +kernel)
theorem dX3_takeItem_245 : decode cX3_takeItem 245 = .ok (.iload_n 2, 1) := dc_28 (by decide +kernel)
theorem dX3_takeItem_246 : decode cX3_takeItem 246 = .ok (.iconst 2, 1) := dc_5 (by decide +kernel)
theorem dX3_takeItem_247 : decode cX3_takeItem 247 = .ok (.invokevirtual 363, 3) := dc_182 (a := 1) (b := 107) (n := 363) (by decide +kernel)
theorem dX3_takeItem_250 : decode cX3_takeItem 250 = .ok (.iconst 0, 1) := dc_3 (by decide +kernel)
theorem dX3_takeItem_251 : decode cX3_takeItem 251 = .ok (.invokevirtual 514, 3) := dc_182 (a := 2) (b := 2) (n := 514) (by decide +kernel)
theorem dX3_takeItem_254 : decode cX3_takeItem 254 = .ok (.istore 10, 2) := dc_54 (a := 10) (by decide +kernel)
theorem dX3_takeItem_256 : decode cX3_takeItem 256 = .ok (.return_, 1) := dc_177 (by decide +kernel)
theorem GX3_510 {w : eW} {d : Nat} {Y : eY} {pc : Nat} {ls : eL} {st : List Value} {h : eH} {Q : eO → eH → Prop} {a : Nat} {x : Nat} (hf : g_A 20 h a 0 = some x) (hd : decode Y.2.1 pc = .ok (.getfield 510, 3)) (hY : Y.1.cls = RX3) (kk : wp w d Y (pc + 3) ls (.ref x :: st) h Q) : wp w d Y pc ls (.ref a :: st) h Q := x_gAN (ci := 20) (k := 0) hf hd rfl (by decide) (by rw [hY]; exact q1447) kk
def fX3_takeItem_b256  (h : eH) : Option (Unit × eH) :=
  some ((), h)
theorem pX3_takeItem_b256 {w : eW} {d : Nat} (hd : 1 ≤ d + 1)  {h : eH} {q} (hf : fX3_takeItem_b256  h = some q) : wp w (d + 1) YX3_takeItem 256 [none, none, none, none, none, none, none, none, none, none, none] [] h (e_is (e_rn c_V q)) := by
  unfold fX3_takeItem_b256 at hf
  cases hf
  exact w_vret dX3_takeItem_256 rfl rfl
def fX3_takeItem_b95 (s0 : Nat) (s1 : Int32) (s2 : Int32) (h : eH) : Option (Unit × eH) :=
  (k_ok 21 h s0).bind fun _ =>
  (fX22_add s0 s1 s2 (0 : Int32) (0 : Int32) (0 : Int32) h).bind fun q2 =>
  fX3_takeItem_b256 q2.2
theorem pX3_takeItem_b95 {w : eW} {d : Nat} (hd : 1 ≤ d + 1) {s0 : Nat} {s1 : Int32} {s2 : Int32} {h : eH} {q} (hf : fX3_takeItem_b95 s0 s1 s2 h = some q) : wp w (d + 1) YX3_takeItem 95 [none, none, none, none, none, none, none, none, none, none, none] [.int s2, .int s1, .ref s0] h (e_is (e_rn c_V q)) := by
  unfold fX3_takeItem_b95 at hf
  refine w_iconst dX3_takeItem_95 (v := 0) (by decide) ?_
  refine w_iconst dX3_takeItem_96 (v := 0) (by decide) ?_
  refine w_iconst dX3_takeItem_97 (v := 0) (by decide) ?_
  obtain ⟨_, b1, hf⟩ := Option.bind_eq_some_iff.mp hf
  refine x_cnI hf (e_stV (Yc := YX22_add) (ci := 21) (av := [.int s1, .int s2, .int (0 : Int32), .int (0 : Int32), .int (0 : Int32)]) (st := []) dX3_takeItem_98 q3693 mX22_add rfl (k_ok_some b1).1 (k_ok_some b1).2) mX22_add.2.2.1 mX22_add.2.2.2.2.1 (Nat.le_of_ble_eq_true rfl) (Nat.le_of_ble_eq_true rfl) (fun q hq => pX22_add (by omega) hq) (fun q2 hf => ?_)
  refine w_istore dX3_takeItem_101 (by decide) (ls' := [none, none, none, none, none, some (.int q2.1), none, none, none, none, none]) rfl ?_
  refine w_goto 256 dX3_takeItem_103 (by decide) ?_
  exact (pX3_takeItem_b256 hd hf).to trivial
def fX3_takeItem_b183 (l1 : Nat) (l2 : Int32) (s0 : Nat) (s1 : Int32) (h : eH) : Option (Unit × eH) :=
  (k_ok 33 h l1).bind fun _ =>
  (fX34_of l1 l2 (0 : Int32) h).bind fun q2 =>
  (k_ok 21 q2.2 s0).bind fun _ =>
  (fX22_add s0 s1 q2.1 (0 : Int32) (0 : Int32) (0 : Int32) q2.2).bind fun q4 =>
  fX3_takeItem_b256 q4.2
theorem pX3_takeItem_b183 {w : eW} {d : Nat} (hd : 1 ≤ d + 1) {l1 : Nat} {l2 : Int32} {s0 : Nat} {s1 : Int32} {h : eH} {q} (hf : fX3_takeItem_b183 l1 l2 s0 s1 h = some q) : wp w (d + 1) YX3_takeItem 183 [none, some (.ref l1), some (.int l2), none, none, none, none, none, none, none, none] [.int s1, .ref s0] h (e_is (e_rn c_V q)) := by
  unfold fX3_takeItem_b183 at hf
  refine w_aload_n dX3_takeItem_183 rfl rfl ?_
  refine w_iload_n dX3_takeItem_184 rfl rfl ?_
  refine w_iconst dX3_takeItem_185 (v := 0) (by decide) ?_
  obtain ⟨_, b1, hf⟩ := Option.bind_eq_some_iff.mp hf
  refine x_cnI hf (e_stV (Yc := YX34_of) (ci := 33) (av := [.int l2, .int (0 : Int32)]) (st := [.int s1, .ref s0]) dX3_takeItem_186 q3161 mX34_of rfl (k_ok_some b1).1 (k_ok_some b1).2) mX34_of.2.2.1 mX34_of.2.2.2.2.1 (Nat.le_of_ble_eq_true rfl) (Nat.le_of_ble_eq_true rfl) (fun q hq => pX34_of (by omega) hq) (fun q2 hf => ?_)
  refine w_iconst dX3_takeItem_189 (v := 0) (by decide) ?_
  refine w_iconst dX3_takeItem_190 (v := 0) (by decide) ?_
  refine w_iconst dX3_takeItem_191 (v := 0) (by decide) ?_
  obtain ⟨_, b3, hf⟩ := Option.bind_eq_some_iff.mp hf
  refine x_cnI hf (e_stV (Yc := YX22_add) (ci := 21) (av := [.int s1, .int q2.1, .int (0 : Int32), .int (0 : Int32), .int (0 : Int32)]) (st := []) dX3_takeItem_192 q3693 mX22_add rfl (k_ok_some b3).1 (k_ok_some b3).2) mX22_add.2.2.1 mX22_add.2.2.2.2.1 (Nat.le_of_ble_eq_true rfl) (Nat.le_of_ble_eq_true rfl) (fun q hq => pX22_add (by omega) hq) (fun q4 hf => ?_)
  refine w_istore dX3_takeItem_195 (by decide) (ls' := [none, some (.ref l1), some (.int l2), none, none, none, none, none, some (.int q4.1), none, none]) rfl ?_
  refine w_goto 256 dX3_takeItem_197 (by decide) ?_
  exact (pX3_takeItem_b256 hd hf).to trivial
def fX3_takeItem_b242 (l1 : Nat) (l2 : Int32) (s0 : Nat) (s1 : Int32) (s2 : Int32) (h : eH) : Option (Unit × eH) :=
  (k_ok 33 h l1).bind fun _ =>
  (fX34_of l1 l2 (2 : Int32) h).bind fun q2 =>
  (k_ok 21 q2.2 s0).bind fun _ =>
  (fX22_add s0 s1 s2 (-2147483648 : Int32) q2.1 (0 : Int32) q2.2).bind fun q4 =>
  fX3_takeItem_b256 q4.2
theorem pX3_takeItem_b242 {w : eW} {d : Nat} (hd : 1 ≤ d + 1) {l1 : Nat} {l2 : Int32} {s0 : Nat} {s1 : Int32} {s2 : Int32} {h : eH} {q} (hf : fX3_takeItem_b242 l1 l2 s0 s1 s2 h = some q) : wp w (d + 1) YX3_takeItem 242 [none, some (.ref l1), some (.int l2), none, none, none, none, none, none, none, none] [.int s2, .int s1, .ref s0] h (e_is (e_rn c_V q)) := by
  unfold fX3_takeItem_b242 at hf
  refine w_ldc dX3_takeItem_242 q2052 ?_
  refine w_aload_n dX3_takeItem_244 rfl rfl ?_
  refine w_iload_n dX3_takeItem_245 rfl rfl ?_
  refine w_iconst dX3_takeItem_246 (v := 2) (by decide) ?_
  obtain ⟨_, b1, hf⟩ := Option.bind_eq_some_iff.mp hf
  refine x_cnI hf (e_stV (Yc := YX34_of) (ci := 33) (av := [.int l2, .int (2 : Int32)]) (st := [.int (-2147483648 : Int32), .int s2, .int s1, .ref s0]) dX3_takeItem_247 q3161 mX34_of rfl (k_ok_some b1).1 (k_ok_some b1).2) mX34_of.2.2.1 mX34_of.2.2.2.2.1 (Nat.le_of_ble_eq_true rfl) (Nat.le_of_ble_eq_true rfl) (fun q hq => pX34_of (by omega) hq) (fun q2 hf => ?_)
  refine w_iconst dX3_takeItem_250 (v := 0) (by decide) ?_
  obtain ⟨_, b3, hf⟩ := Option.bind_eq_some_iff.mp hf
  refine x_cnI hf (e_stV (Yc := YX22_add) (ci := 21) (av := [.int s1, .int s2, .int (-2147483648 : Int32), .int q2.1, .int (0 : Int32)]) (st := []) dX3_takeItem_251 q3693 mX22_add rfl (k_ok_some b3).1 (k_ok_some b3).2) mX22_add.2.2.1 mX22_add.2.2.2.2.1 (Nat.le_of_ble_eq_true rfl) (Nat.le_of_ble_eq_true rfl) (fun q hq => pX22_add (by omega) hq) (fun q4 hf => ?_)
  refine w_istore dX3_takeItem_254 (by decide) (ls' := [none, some (.ref l1), some (.int l2), none, none, none, none, none, none, none, some (.int q4.1)]) rfl ?_
  exact (pX3_takeItem_b256 hd hf).to trivial
def fX3_takeItem (this : Nat) (p0 : Nat) (p1 : Int32) (h : eH) : Option (Unit × eH) :=
  (g_A 2 h this 11).bind fun a1 =>
  (g_A 20 h a1 0).bind fun a3 =>
  (k_ok 33 h p0).bind fun _ =>
  (fX34_kind p0 p1 h).bind fun q6 =>
  if q6.1 = (0 : Int32) then
    (k_ok 33 q6.2 p0).bind fun _ =>
    (fX34_of p0 p1 (1 : Int32) q6.2).bind fun q9 =>
    (k_ok 21 q9.2 a3).bind fun _ =>
    (fX22_add a3 (0 : Int32) q9.1 (0 : Int32) (0 : Int32) (0 : Int32) q9.2).bind fun q11 =>
    fX3_takeItem_b256 q11.2
  else
  if q6.1 = (1 : Int32) then
    (k_ok 33 q6.2 p0).bind fun _ =>
    (fX34_of p0 p1 (0 : Int32) q6.2).bind fun q14 =>
    if ¬ q14.1 = (-1073741824 : Int32) then
      (k_ok 33 q14.2 p0).bind fun _ =>
      (fX34_of p0 p1 (0 : Int32) q14.2).bind fun q17 =>
      fX3_takeItem_b95 a3 (0 : Int32) q17.1 q17.2
    else
      fX3_takeItem_b95 a3 (0 : Int32) (0 : Int32) q14.2
  else
  if q6.1 = (2 : Int32) then
    (k_ok 33 q6.2 p0).bind fun _ =>
    (fX34_of p0 p1 (0 : Int32) q6.2).bind fun q20 =>
    (k_ok 33 q20.2 p0).bind fun _ =>
    (fX34_of p0 p1 (1 : Int32) q20.2).bind fun q22 =>
    (k_ok 33 q22.2 p0).bind fun _ =>
    (fX34_of p0 p1 (2 : Int32) q22.2).bind fun q24 =>
    (k_ok 33 q24.2 p0).bind fun _ =>
    (fX34_of p0 p1 (3 : Int32) q24.2).bind fun q26 =>
    (k_ok 21 q26.2 a3).bind fun _ =>
    (fX22_add a3 (1 : Int32) q20.1 q22.1 q24.1 q26.1 q26.2).bind fun q28 =>
    fX3_takeItem_b256 q28.2
  else
  if q6.1 = (3 : Int32) then
    (k_ok 33 q6.2 p0).bind fun _ =>
    (fX34_of p0 p1 (1 : Int32) q6.2).bind fun q31 =>
    if ¬ q31.1 = (1 : Int32) then
      fX3_takeItem_b183 p0 p1 a3 (2 : Int32) q31.2
    else
      fX3_takeItem_b183 p0 p1 a3 (3 : Int32) q31.2
  else
  if q6.1 = (4 : Int32) then
    (g_A 2 q6.2 this 3).bind fun a34 =>
    (k_ok 33 q6.2 p0).bind fun _ =>
    (fX34_of p0 p1 (0 : Int32) q6.2).bind fun q37 =>
    (r_A 104 q37.2 a34 q37.1).bind fun a38 =>
    (g_I 41 q37.2 a38 3).bind fun x40 =>
    (k_ok 21 q37.2 a3).bind fun _ =>
    (fX22_add a3 (0 : Int32) x40 (0 : Int32) (0 : Int32) (0 : Int32) q37.2).bind fun q43 =>
    fX3_takeItem_b256 q43.2
  else
  if q6.1 = (5 : Int32) then
    (k_ok 33 q6.2 p0).bind fun _ =>
    (fX34_of p0 p1 (0 : Int32) q6.2).bind fun q46 =>
    (k_ok 21 q46.2 a3).bind fun _ =>
    (fX22_add a3 (4 : Int32) q46.1 (0 : Int32) (0 : Int32) (0 : Int32) q46.2).bind fun q48 =>
    fX3_takeItem_b256 q48.2
  else
  (k_ok 33 q6.2 p0).bind fun _ =>
  (fX34_of p0 p1 (3 : Int32) q6.2).bind fun q50 =>
  if ¬ q50.1 = (1 : Int32) then
    fX3_takeItem_b242 p0 p1 a3 (5 : Int32) (-2147483648 : Int32) q50.2
  else
    (k_ok 33 q50.2 p0).bind fun _ =>
    (fX34_of p0 p1 (0 : Int32) q50.2).bind fun q53 =>
    fX3_takeItem_b242 p0 p1 a3 (5 : Int32) q53.1 q53.2
theorem pX3_takeItem {w : eW} {d : Nat} (hd : 1 ≤ d) {this : Nat} {p0 : Nat} {p1 : Int32} {h : eH} {q} (hf : fX3_takeItem this p0 p1 h = some q) : wm w d YX3_takeItem [.ref this, .ref p0, .int p1] h (e_is (e_rn c_V q)) := by
  obtain ⟨d, rfl⟩ : ∃ e, d = e + 1 := ⟨d - 1, by omega⟩
  show wp w (d + 1) YX3_takeItem 0 [some (.ref this), some (.ref p0), some (.int p1), none, none, none, none, none, none, none, none] [] h _
  unfold fX3_takeItem at hf
  refine w_aload_n dX3_takeItem_0 rfl rfl ?_
  obtain ⟨a1, b2, hf⟩ := Option.bind_eq_some_iff.mp hf
  refine GX3_87 b2 dX3_takeItem_1 rfl ?_
  obtain ⟨a3, b4, hf⟩ := Option.bind_eq_some_iff.mp hf
  refine GX3_510 b4 dX3_takeItem_4 rfl ?_
  refine w_astore_n dX3_takeItem_7 rfl (by decide) (ls' := [some (.ref this), some (.ref p0), some (.int p1), some (.ref a3), none, none, none, none, none, none, none]) rfl ?_
  refine w_aload_n dX3_takeItem_8 rfl rfl ?_
  refine w_iload_n dX3_takeItem_9 rfl rfl ?_
  obtain ⟨_, b5, hf⟩ := Option.bind_eq_some_iff.mp hf
  refine x_cnI hf (e_stV (Yc := YX34_kind) (ci := 33) (av := [.int p1]) (st := []) dX3_takeItem_10 q3157 mX34_kind rfl (k_ok_some b5).1 (k_ok_some b5).2) mX34_kind.2.2.1 mX34_kind.2.2.2.2.1 (Nat.le_of_ble_eq_true rfl) (Nat.le_of_ble_eq_true rfl) (fun q hq => pX34_kind (by omega) hq) (fun q6 hf => ?_)
  by_cases c7 : q6.1 = (0 : Int32)
  · replace hf := (if_pos c7).symm.trans hf
    refine w_tableIn 52 dX3_takeItem_13 (by rw [c7]; decide) (by rw [c7]; decide) (by rw [c7]; rfl) (by decide) ?_
    refine w_aload_n dX3_takeItem_52 rfl rfl ?_
    refine w_iconst dX3_takeItem_53 (v := 0) (by decide) ?_
    refine w_aload_n dX3_takeItem_54 rfl rfl ?_
    refine w_iload_n dX3_takeItem_55 rfl rfl ?_
    refine w_iconst dX3_takeItem_56 (v := 1) (by decide) ?_
    obtain ⟨_, b8, hf⟩ := Option.bind_eq_some_iff.mp hf
    refine x_cnI hf (e_stV (Yc := YX34_of) (ci := 33) (av := [.int p1, .int (1 : Int32)]) (st := [.int (0 : Int32), .ref a3]) dX3_takeItem_57 q3161 mX34_of rfl (k_ok_some b8).1 (k_ok_some b8).2) mX34_of.2.2.1 mX34_of.2.2.2.2.1 (Nat.le_of_ble_eq_true rfl) (Nat.le_of_ble_eq_true rfl) (fun q hq => pX34_of (by omega) hq) (fun q9 hf => ?_)
    refine w_iconst dX3_takeItem_60 (v := 0) (by decide) ?_
    refine w_iconst dX3_takeItem_61 (v := 0) (by decide) ?_
    refine w_iconst dX3_takeItem_62 (v := 0) (by decide) ?_
    obtain ⟨_, b10, hf⟩ := Option.bind_eq_some_iff.mp hf
    refine x_cnI hf (e_stV (Yc := YX22_add) (ci := 21) (av := [.int (0 : Int32), .int q9.1, .int (0 : Int32), .int (0 : Int32), .int (0 : Int32)]) (st := []) dX3_takeItem_63 q3693 mX22_add rfl (k_ok_some b10).1 (k_ok_some b10).2) mX22_add.2.2.1 mX22_add.2.2.2.2.1 (Nat.le_of_ble_eq_true rfl) (Nat.le_of_ble_eq_true rfl) (fun q hq => pX22_add (by omega) hq) (fun q11 hf => ?_)
    refine w_istore dX3_takeItem_66 (by decide) (ls' := [some (.ref this), some (.ref p0), some (.int p1), some (.ref a3), some (.int q11.1), none, none, none, none, none, none]) rfl ?_
    refine w_goto 256 dX3_takeItem_68 (by decide) ?_
    exact (pX3_takeItem_b256 hd hf).to trivial
  replace hf := (if_neg c7).symm.trans hf
  by_cases c12 : q6.1 = (1 : Int32)
  · replace hf := (if_pos c12).symm.trans hf
    refine w_tableIn 71 dX3_takeItem_13 (by rw [c12]; decide) (by rw [c12]; decide) (by rw [c12]; rfl) (by decide) ?_
    refine w_aload_n dX3_takeItem_71 rfl rfl ?_
    refine w_iconst dX3_takeItem_72 (v := 0) (by decide) ?_
    refine w_aload_n dX3_takeItem_73 rfl rfl ?_
    refine w_iload_n dX3_takeItem_74 rfl rfl ?_
    refine w_iconst dX3_takeItem_75 (v := 0) (by decide) ?_
    obtain ⟨_, b13, hf⟩ := Option.bind_eq_some_iff.mp hf
    refine x_cnI hf (e_stV (Yc := YX34_of) (ci := 33) (av := [.int p1, .int (0 : Int32)]) (st := [.int (0 : Int32), .ref a3]) dX3_takeItem_76 q3161 mX34_of rfl (k_ok_some b13).1 (k_ok_some b13).2) mX34_of.2.2.1 mX34_of.2.2.2.2.1 (Nat.le_of_ble_eq_true rfl) (Nat.le_of_ble_eq_true rfl) (fun q hq => pX34_of (by omega) hq) (fun q14 hf => ?_)
    refine w_ldc_w dX3_takeItem_79 q3211 ?_
    refine w_icmp_ne 89 dX3_takeItem_82 (by decide) (fun c15 => ?_) (fun c15 => ?_)
    · replace hf := (if_pos (show ¬ q14.1 = (-1073741824 : Int32) from c15)).symm.trans hf
      refine w_aload_n dX3_takeItem_89 rfl rfl ?_
      refine w_iload_n dX3_takeItem_90 rfl rfl ?_
      refine w_iconst dX3_takeItem_91 (v := 0) (by decide) ?_
      obtain ⟨_, b16, hf⟩ := Option.bind_eq_some_iff.mp hf
      refine x_cnI hf (e_stV (Yc := YX34_of) (ci := 33) (av := [.int p1, .int (0 : Int32)]) (st := [.int (0 : Int32), .ref a3]) dX3_takeItem_92 q3161 mX34_of rfl (k_ok_some b16).1 (k_ok_some b16).2) mX34_of.2.2.1 mX34_of.2.2.2.2.1 (Nat.le_of_ble_eq_true rfl) (Nat.le_of_ble_eq_true rfl) (fun q hq => pX34_of (by omega) hq) (fun q17 hf => ?_)
      exact (pX3_takeItem_b95 hd hf).to trivial
    · replace hf := (if_neg (show ¬ (¬ q14.1 = (-1073741824 : Int32)) from (fun z => z c15))).symm.trans hf
      refine w_iconst dX3_takeItem_85 (v := 0) (by decide) ?_
      refine w_goto 95 dX3_takeItem_86 (by decide) ?_
      exact (pX3_takeItem_b95 hd hf).to trivial
  replace hf := (if_neg c12).symm.trans hf
  by_cases c18 : q6.1 = (2 : Int32)
  · replace hf := (if_pos c18).symm.trans hf
    refine w_tableIn 133 dX3_takeItem_13 (by rw [c18]; decide) (by rw [c18]; decide) (by rw [c18]; rfl) (by decide) ?_
    refine w_aload_n dX3_takeItem_133 rfl rfl ?_
    refine w_iconst dX3_takeItem_134 (v := 1) (by decide) ?_
    refine w_aload_n dX3_takeItem_135 rfl rfl ?_
    refine w_iload_n dX3_takeItem_136 rfl rfl ?_
    refine w_iconst dX3_takeItem_137 (v := 0) (by decide) ?_
    obtain ⟨_, b19, hf⟩ := Option.bind_eq_some_iff.mp hf
    refine x_cnI hf (e_stV (Yc := YX34_of) (ci := 33) (av := [.int p1, .int (0 : Int32)]) (st := [.int (1 : Int32), .ref a3]) dX3_takeItem_138 q3161 mX34_of rfl (k_ok_some b19).1 (k_ok_some b19).2) mX34_of.2.2.1 mX34_of.2.2.2.2.1 (Nat.le_of_ble_eq_true rfl) (Nat.le_of_ble_eq_true rfl) (fun q hq => pX34_of (by omega) hq) (fun q20 hf => ?_)
    refine w_aload_n dX3_takeItem_141 rfl rfl ?_
    refine w_iload_n dX3_takeItem_142 rfl rfl ?_
    refine w_iconst dX3_takeItem_143 (v := 1) (by decide) ?_
    obtain ⟨_, b21, hf⟩ := Option.bind_eq_some_iff.mp hf
    refine x_cnI hf (e_stV (Yc := YX34_of) (ci := 33) (av := [.int p1, .int (1 : Int32)]) (st := [.int q20.1, .int (1 : Int32), .ref a3]) dX3_takeItem_144 q3161 mX34_of rfl (k_ok_some b21).1 (k_ok_some b21).2) mX34_of.2.2.1 mX34_of.2.2.2.2.1 (Nat.le_of_ble_eq_true rfl) (Nat.le_of_ble_eq_true rfl) (fun q hq => pX34_of (by omega) hq) (fun q22 hf => ?_)
    refine w_aload_n dX3_takeItem_147 rfl rfl ?_
    refine w_iload_n dX3_takeItem_148 rfl rfl ?_
    refine w_iconst dX3_takeItem_149 (v := 2) (by decide) ?_
    obtain ⟨_, b23, hf⟩ := Option.bind_eq_some_iff.mp hf
    refine x_cnI hf (e_stV (Yc := YX34_of) (ci := 33) (av := [.int p1, .int (2 : Int32)]) (st := [.int q22.1, .int q20.1, .int (1 : Int32), .ref a3]) dX3_takeItem_150 q3161 mX34_of rfl (k_ok_some b23).1 (k_ok_some b23).2) mX34_of.2.2.1 mX34_of.2.2.2.2.1 (Nat.le_of_ble_eq_true rfl) (Nat.le_of_ble_eq_true rfl) (fun q hq => pX34_of (by omega) hq) (fun q24 hf => ?_)
    refine w_aload_n dX3_takeItem_153 rfl rfl ?_
    refine w_iload_n dX3_takeItem_154 rfl rfl ?_
    refine w_iconst dX3_takeItem_155 (v := 3) (by decide) ?_
    obtain ⟨_, b25, hf⟩ := Option.bind_eq_some_iff.mp hf
    refine x_cnI hf (e_stV (Yc := YX34_of) (ci := 33) (av := [.int p1, .int (3 : Int32)]) (st := [.int q24.1, .int q22.1, .int q20.1, .int (1 : Int32), .ref a3]) dX3_takeItem_156 q3161 mX34_of rfl (k_ok_some b25).1 (k_ok_some b25).2) mX34_of.2.2.1 mX34_of.2.2.2.2.1 (Nat.le_of_ble_eq_true rfl) (Nat.le_of_ble_eq_true rfl) (fun q hq => pX34_of (by omega) hq) (fun q26 hf => ?_)
    obtain ⟨_, b27, hf⟩ := Option.bind_eq_some_iff.mp hf
    refine x_cnI hf (e_stV (Yc := YX22_add) (ci := 21) (av := [.int (1 : Int32), .int q20.1, .int q22.1, .int q24.1, .int q26.1]) (st := []) dX3_takeItem_159 q3693 mX22_add rfl (k_ok_some b27).1 (k_ok_some b27).2) mX22_add.2.2.1 mX22_add.2.2.2.2.1 (Nat.le_of_ble_eq_true rfl) (Nat.le_of_ble_eq_true rfl) (fun q hq => pX22_add (by omega) hq) (fun q28 hf => ?_)
    refine w_istore dX3_takeItem_162 (by decide) (ls' := [some (.ref this), some (.ref p0), some (.int p1), some (.ref a3), none, none, none, some (.int q28.1), none, none, none]) rfl ?_
    refine w_goto 256 dX3_takeItem_164 (by decide) ?_
    exact (pX3_takeItem_b256 hd hf).to trivial
  replace hf := (if_neg c18).symm.trans hf
  by_cases c29 : q6.1 = (3 : Int32)
  · replace hf := (if_pos c29).symm.trans hf
    refine w_tableIn 167 dX3_takeItem_13 (by rw [c29]; decide) (by rw [c29]; decide) (by rw [c29]; rfl) (by decide) ?_
    refine w_aload_n dX3_takeItem_167 rfl rfl ?_
    refine w_aload_n dX3_takeItem_168 rfl rfl ?_
    refine w_iload_n dX3_takeItem_169 rfl rfl ?_
    refine w_iconst dX3_takeItem_170 (v := 1) (by decide) ?_
    obtain ⟨_, b30, hf⟩ := Option.bind_eq_some_iff.mp hf
    refine x_cnI hf (e_stV (Yc := YX34_of) (ci := 33) (av := [.int p1, .int (1 : Int32)]) (st := [.ref a3]) dX3_takeItem_171 q3161 mX34_of rfl (k_ok_some b30).1 (k_ok_some b30).2) mX34_of.2.2.1 mX34_of.2.2.2.2.1 (Nat.le_of_ble_eq_true rfl) (Nat.le_of_ble_eq_true rfl) (fun q hq => pX34_of (by omega) hq) (fun q31 hf => ?_)
    refine w_iconst dX3_takeItem_174 (v := 1) (by decide) ?_
    refine w_icmp_ne 182 dX3_takeItem_175 (by decide) (fun c32 => ?_) (fun c32 => ?_)
    · replace hf := (if_pos (show ¬ q31.1 = (1 : Int32) from c32)).symm.trans hf
      refine w_iconst dX3_takeItem_182 (v := 2) (by decide) ?_
      exact (pX3_takeItem_b183 hd hf).to ⟨rfl, rfl, trivial⟩
    · replace hf := (if_neg (show ¬ (¬ q31.1 = (1 : Int32)) from (fun z => z c32))).symm.trans hf
      refine w_iconst dX3_takeItem_178 (v := 3) (by decide) ?_
      refine w_goto 183 dX3_takeItem_179 (by decide) ?_
      exact (pX3_takeItem_b183 hd hf).to ⟨rfl, rfl, trivial⟩
  replace hf := (if_neg c29).symm.trans hf
  by_cases c33 : q6.1 = (4 : Int32)
  · replace hf := (if_pos c33).symm.trans hf
    refine w_tableIn 106 dX3_takeItem_13 (by rw [c33]; decide) (by rw [c33]; decide) (by rw [c33]; rfl) (by decide) ?_
    refine w_aload_n dX3_takeItem_106 rfl rfl ?_
    refine w_iconst dX3_takeItem_107 (v := 0) (by decide) ?_
    refine w_aload_n dX3_takeItem_108 rfl rfl ?_
    obtain ⟨a34, b35, hf⟩ := Option.bind_eq_some_iff.mp hf
    refine GX3_36 b35 dX3_takeItem_109 rfl ?_
    refine w_aload_n dX3_takeItem_112 rfl rfl ?_
    refine w_iload_n dX3_takeItem_113 rfl rfl ?_
    refine w_iconst dX3_takeItem_114 (v := 0) (by decide) ?_
    obtain ⟨_, b36, hf⟩ := Option.bind_eq_some_iff.mp hf
    refine x_cnI hf (e_stV (Yc := YX34_of) (ci := 33) (av := [.int p1, .int (0 : Int32)]) (st := [.ref a34, .int (0 : Int32), .ref a3]) dX3_takeItem_115 q3161 mX34_of rfl (k_ok_some b36).1 (k_ok_some b36).2) mX34_of.2.2.1 mX34_of.2.2.2.2.1 (Nat.le_of_ble_eq_true rfl) (Nat.le_of_ble_eq_true rfl) (fun q hq => pX34_of (by omega) hq) (fun q37 hf => ?_)
    obtain ⟨a38, b39, hf⟩ := Option.bind_eq_some_iff.mp hf
    refine x_rA (c := 104) (by decide) b39 dX3_takeItem_118 ?_
    obtain ⟨x40, b41, hf⟩ := Option.bind_eq_some_iff.mp hf
    refine GX3_519 b41 dX3_takeItem_119 rfl ?_
    refine w_iconst dX3_takeItem_122 (v := 0) (by decide) ?_
    refine w_iconst dX3_takeItem_123 (v := 0) (by decide) ?_
    refine w_iconst dX3_takeItem_124 (v := 0) (by decide) ?_
    obtain ⟨_, b42, hf⟩ := Option.bind_eq_some_iff.mp hf
    refine x_cnI hf (e_stV (Yc := YX22_add) (ci := 21) (av := [.int (0 : Int32), .int x40, .int (0 : Int32), .int (0 : Int32), .int (0 : Int32)]) (st := []) dX3_takeItem_125 q3693 mX22_add rfl (k_ok_some b42).1 (k_ok_some b42).2) mX22_add.2.2.1 mX22_add.2.2.2.2.1 (Nat.le_of_ble_eq_true rfl) (Nat.le_of_ble_eq_true rfl) (fun q hq => pX22_add (by omega) hq) (fun q43 hf => ?_)
    refine w_istore dX3_takeItem_128 (by decide) (ls' := [some (.ref this), some (.ref p0), some (.int p1), some (.ref a3), none, none, some (.int q43.1), none, none, none, none]) rfl ?_
    refine w_goto 256 dX3_takeItem_130 (by decide) ?_
    exact (pX3_takeItem_b256 hd hf).to trivial
  replace hf := (if_neg c33).symm.trans hf
  by_cases c44 : q6.1 = (5 : Int32)
  · replace hf := (if_pos c44).symm.trans hf
    refine w_tableIn 200 dX3_takeItem_13 (by rw [c44]; decide) (by rw [c44]; decide) (by rw [c44]; rfl) (by decide) ?_
    refine w_aload_n dX3_takeItem_200 rfl rfl ?_
    refine w_iconst dX3_takeItem_201 (v := 4) (by decide) ?_
    refine w_aload_n dX3_takeItem_202 rfl rfl ?_
    refine w_iload_n dX3_takeItem_203 rfl rfl ?_
    refine w_iconst dX3_takeItem_204 (v := 0) (by decide) ?_
    obtain ⟨_, b45, hf⟩ := Option.bind_eq_some_iff.mp hf
    refine x_cnI hf (e_stV (Yc := YX34_of) (ci := 33) (av := [.int p1, .int (0 : Int32)]) (st := [.int (4 : Int32), .ref a3]) dX3_takeItem_205 q3161 mX34_of rfl (k_ok_some b45).1 (k_ok_some b45).2) mX34_of.2.2.1 mX34_of.2.2.2.2.1 (Nat.le_of_ble_eq_true rfl) (Nat.le_of_ble_eq_true rfl) (fun q hq => pX34_of (by omega) hq) (fun q46 hf => ?_)
    refine w_iconst dX3_takeItem_208 (v := 0) (by decide) ?_
    refine w_iconst dX3_takeItem_209 (v := 0) (by decide) ?_
    refine w_iconst dX3_takeItem_210 (v := 0) (by decide) ?_
    obtain ⟨_, b47, hf⟩ := Option.bind_eq_some_iff.mp hf
    refine x_cnI hf (e_stV (Yc := YX22_add) (ci := 21) (av := [.int (4 : Int32), .int q46.1, .int (0 : Int32), .int (0 : Int32), .int (0 : Int32)]) (st := []) dX3_takeItem_211 q3693 mX22_add rfl (k_ok_some b47).1 (k_ok_some b47).2) mX22_add.2.2.1 mX22_add.2.2.2.2.1 (Nat.le_of_ble_eq_true rfl) (Nat.le_of_ble_eq_true rfl) (fun q hq => pX22_add (by omega) hq) (fun q48 hf => ?_)
    refine w_istore dX3_takeItem_214 (by decide) (ls' := [some (.ref this), some (.ref p0), some (.int p1), some (.ref a3), none, none, none, none, none, some (.int q48.1), none]) rfl ?_
    refine w_goto 256 dX3_takeItem_216 (by decide) ?_
    exact (pX3_takeItem_b256 hd hf).to trivial
  replace hf := (if_neg c44).symm.trans hf
  refine w_tableOut 219 dX3_takeItem_13 (by have n0 := sw_ne c7 (by decide : (0 : Int32).toInt = 0); have n1 := sw_ne c12 (by decide : (1 : Int32).toInt = 1); have n2 := sw_ne c18 (by decide : (2 : Int32).toInt = 2); have n3 := sw_ne c29 (by decide : (3 : Int32).toInt = 3); have n4 := sw_ne c33 (by decide : (4 : Int32).toInt = 4); have n5 := sw_ne c44 (by decide : (5 : Int32).toInt = 5); omega) (by decide) ?_
  refine w_aload_n dX3_takeItem_219 rfl rfl ?_
  refine w_iconst dX3_takeItem_220 (v := 5) (by decide) ?_
  refine w_aload_n dX3_takeItem_221 rfl rfl ?_
  refine w_iload_n dX3_takeItem_222 rfl rfl ?_
  refine w_iconst dX3_takeItem_223 (v := 3) (by decide) ?_
  obtain ⟨_, b49, hf⟩ := Option.bind_eq_some_iff.mp hf
  refine x_cnI hf (e_stV (Yc := YX34_of) (ci := 33) (av := [.int p1, .int (3 : Int32)]) (st := [.int (5 : Int32), .ref a3]) dX3_takeItem_224 q3161 mX34_of rfl (k_ok_some b49).1 (k_ok_some b49).2) mX34_of.2.2.1 mX34_of.2.2.2.2.1 (Nat.le_of_ble_eq_true rfl) (Nat.le_of_ble_eq_true rfl) (fun q hq => pX34_of (by omega) hq) (fun q50 hf => ?_)
  refine w_iconst dX3_takeItem_227 (v := 1) (by decide) ?_
  refine w_icmp_ne 240 dX3_takeItem_228 (by decide) (fun c51 => ?_) (fun c51 => ?_)
  · replace hf := (if_pos (show ¬ q50.1 = (1 : Int32) from c51)).symm.trans hf
    refine w_ldc dX3_takeItem_240 q2052 ?_
    exact (pX3_takeItem_b242 hd hf).to ⟨rfl, rfl, trivial⟩
  · replace hf := (if_neg (show ¬ (¬ q50.1 = (1 : Int32)) from (fun z => z c51))).symm.trans hf
    refine w_aload_n dX3_takeItem_231 rfl rfl ?_
    refine w_iload_n dX3_takeItem_232 rfl rfl ?_
    refine w_iconst dX3_takeItem_233 (v := 0) (by decide) ?_
    obtain ⟨_, b52, hf⟩ := Option.bind_eq_some_iff.mp hf
    refine x_cnI hf (e_stV (Yc := YX34_of) (ci := 33) (av := [.int p1, .int (0 : Int32)]) (st := [.int (5 : Int32), .ref a3]) dX3_takeItem_234 q3161 mX34_of rfl (k_ok_some b52).1 (k_ok_some b52).2) mX34_of.2.2.1 mX34_of.2.2.2.2.1 (Nat.le_of_ble_eq_true rfl) (Nat.le_of_ble_eq_true rfl) (fun q hq => pX34_of (by omega) hq) (fun q53 hf => ?_)
    refine w_goto 242 dX3_takeItem_237 (by decide) ?_
    exact (pX3_takeItem_b242 hd hf).to ⟨rfl, rfl, trivial⟩
abbrev cX21_plain : ByteArray := prog_3_method_4_code
def yX21_plain : MethodName := ⟨RX21, "plain", "(I)J"⟩
def YX21_plain : eY := (yX21_plain, cX21_plain, 1, (Option.some FieldType.long), [])
theorem mX21_plain : e_ms YX21_plain 1 := ⟨q3702, q447, q3703, by decide, by decide +kernel, (e_sig (by decide +kernel))⟩
theorem dX21_plain_0 : decode cX21_plain 0 = .ok (.iload_n 0, 1) := dc_26 (by decide +kernel)
theorem dX21_plain_1 : decode cX21_plain 1 = .ok (.ifCond .ge 9, 3) := dc_156 (a := 0) (b := 9) (v := 9) (by decide +kernel)
theorem dX21_plain_4 : decode cX21_plain 4 = .ok (.iload_n 0, 1) := dc_26 (by decide +kernel)
theorem dX21_plain_5 : decode cX21_plain 5 = .ok (.i2l, 1) := dc_133 (by decide +kernel)
theorem dX21_plain_6 : decode cX21_plain 6 = .ok (.lneg, 1) := dc_117 (by decide +kernel)
theorem dX21_plain_7 : decode cX21_plain 7 = .ok (.goto 5, 3) := dc_167 (a := 0) (b := 5) (v := 5) (by decide +kernel)
theorem dX21_plain_10 : decode cX21_plain 10 = .ok (.iload_n 0, 1) := dc_26 (by decide +kernel)
theorem dX21_plain_11 : decode cX21_plain 11 = .ok (.i2l, 1) := dc_133 (by decide +kernel)
theorem dX21_plain_12 : decode cX21_plain 12 = .ok (.lreturn, 1) := dc_173 (by decide +kernel)
def fX21_plain_b12 (s0 : Int64) (h : eH) : Option (Int64 × eH) :=
  some (s0, h)
theorem pX21_plain_b12 {w : eW} {d : Nat} (hd : 0 ≤ d) {s0 : Int64} {h : eH} {q} (hf : fX21_plain_b12 s0 h = some q) : wp w d YX21_plain 12 [none] [.long s0] h (e_is (e_rn c_J q)) := by
  unfold fX21_plain_b12 at hf
  cases hf
  exact w_lret dX21_plain_12 rfl rfl
def fX21_plain (p0 : Int32) (h : eH) : Option (Int64 × eH) :=
  if 0 ≤ p0 then
    fX21_plain_b12 (p0).toInt64 h
  else
    fX21_plain_b12 (-(p0).toInt64) h
theorem pX21_plain {w : eW} {d : Nat} (hd : 0 ≤ d) {p0 : Int32} {h : eH} {q} (hf : fX21_plain p0 h = some q) : wm w d YX21_plain [.int p0] h (e_is (e_rn c_J q)) := by
  show wp w d YX21_plain 0 [some (.int p0)] [] h _
  unfold fX21_plain at hf
  refine w_iload_n dX21_plain_0 rfl rfl ?_
  refine w_if_ge 10 dX21_plain_1 (by decide) (fun c1 => ?_) (fun c1 => ?_)
  · replace hf := (if_pos (show 0 ≤ p0 from c1)).symm.trans hf
    refine w_iload_n dX21_plain_10 rfl rfl ?_
    refine w_i2l dX21_plain_11 ?_
    exact (pX21_plain_b12 hd hf).to trivial
  · replace hf := (if_neg (show ¬ (0 ≤ p0) from c1)).symm.trans hf
    refine w_iload_n dX21_plain_4 rfl rfl ?_
    refine w_i2l dX21_plain_5 ?_
    refine w_lneg dX21_plain_6 ?_
    refine w_goto 12 dX21_plain_7 (by decide) ?_
    exact (pX21_plain_b12 hd hf).to trivial
abbrev cX1_solid : ByteArray := prog_1_method_2_code
def yX1_solid : MethodName := ⟨RX1, "solid", "(I)I"⟩
def YX1_solid : eY := (yX1_solid, cX1_solid, 1, (Option.some FieldType.int), [])
theorem mX1_solid : e_ms YX1_solid 1 := ⟨q3705, q426, q3706, by decide, by decide +kernel, (e_sig (by decide +kernel))⟩
theorem dX1_solid_0 : decode cX1_solid 0 = .ok (.iload_n 0, 1) := dc_26 (by decide +kernel)
theorem dX1_solid_1 : decode cX1_solid 1 = .ok (.ldc 9, 2) := dc_18 (a := 9) (by decide +kernel)
theorem dX1_solid_3 : decode cX1_solid 3 = .ok (.if_icmp .ne 7, 3) := dc_160 (a := 0) (b := 7) (v := 7) (by decide +kernel)
theorem dX1_solid_6 : decode cX1_solid 6 = .ok (.iconst 0, 1) := dc_3 (by decide +kernel)
theorem dX1_solid_7 : decode cX1_solid 7 = .ok (.goto 4, 3) := dc_167 (a := 0) (b := 4) (v := 4) (by decide +kernel)
theorem dX1_solid_10 : decode cX1_solid 10 = .ok (.iload_n 0, 1) := dc_26 (by decide +kernel)
theorem dX1_solid_11 : decode cX1_solid 11 = .ok (.ireturn, 1) := dc_172 (by decide +kernel)
def fX1_solid_b11 (s0 : Int32) (h : eH) : Option (Int32 × eH) :=
  some (s0, h)
theorem pX1_solid_b11 {w : eW} {d : Nat} (hd : 0 ≤ d) {s0 : Int32} {h : eH} {q} (hf : fX1_solid_b11 s0 h = some q) : wp w d YX1_solid 11 [none] [.int s0] h (e_is (e_rn c_I q)) := by
  unfold fX1_solid_b11 at hf
  cases hf
  exact w_iret dX1_solid_11 rfl rfl rfl
def fX1_solid (p0 : Int32) (h : eH) : Option (Int32 × eH) :=
  if ¬ p0 = (-2147483648 : Int32) then
    fX1_solid_b11 p0 h
  else
    fX1_solid_b11 (0 : Int32) h
theorem pX1_solid {w : eW} {d : Nat} (hd : 0 ≤ d) {p0 : Int32} {h : eH} {q} (hf : fX1_solid p0 h = some q) : wm w d YX1_solid [.int p0] h (e_is (e_rn c_I q)) := by
  show wp w d YX1_solid 0 [some (.int p0)] [] h _
  unfold fX1_solid at hf
  refine w_iload_n dX1_solid_0 rfl rfl ?_
  refine w_ldc dX1_solid_1 q3707 ?_
  refine w_icmp_ne 10 dX1_solid_3 (by decide) (fun c1 => ?_) (fun c1 => ?_)
  · replace hf := (if_pos (show ¬ p0 = (-2147483648 : Int32) from c1)).symm.trans hf
    refine w_iload_n dX1_solid_10 rfl rfl ?_
    exact (pX1_solid_b11 hd hf).to trivial
  · replace hf := (if_neg (show ¬ (¬ p0 = (-2147483648 : Int32)) from (fun z => z c1))).symm.trans hf
    refine w_iconst dX1_solid_6 (v := 0) (by decide) ?_
    refine w_goto 11 dX1_solid_7 (by decide) ?_
    exact (pX1_solid_b11 hd hf).to trivial
abbrev cX21_areSizes : ByteArray := prog_3_method_5_code
def yX21_areSizes : MethodName := ⟨RX21, "areSizes", "()Z"⟩
def YX21_areSizes : eY := (yX21_areSizes, cX21_areSizes, 9, (Option.some FieldType.boolean), [])
theorem mX21_areSizes : e_mv YX21_areSizes RX21 0 := ⟨q3698, q3699, q3700, by decide, by decide +kernel, (e_sig (by decide +kernel))⟩
theorem dX21_areSizes_0 : decode cX21_areSizes 0 = .ok (.lconst 0, 1) := dc_9 (by decide +kernel)
theorem dX21_areSizes_1 : decode cX21_areSizes 1 = .ok (.lstore_n 1, 1) := dc_64 (by decide +kernel)
theorem dX21_areSizes_2 : decode cX21_areSizes 2 = .ok (.aload_n 0, 1) := dc_42 (by decide +kernel)
theorem dX21_areSizes_3 : decode cX21_areSizes 3 = .ok (.getfield 25, 3) := dc_180 (a := 0) (b := 25) (n := 25) (by decide +kernel)
theorem dX21_areSizes_6 : decode cX21_areSizes 6 = .ok (.bipush 8, 2) := dc_16 (a := 8) (v := 8) (by decide +kernel)
theorem dX21_areSizes_8 : decode cX21_areSizes 8 = .ok (.iaload, 1) := dc_46 (by decide +kernel)
theorem dX21_areSizes_9 : decode cX21_areSizes 9 = .ok (.i2l, 1) := dc_133 (by decide +kernel)
theorem dX21_areSizes_10 : decode cX21_areSizes 10 = .ok (.lstore_n 3, 1) := dc_66 (by decide +kernel)
theorem dX21_areSizes_11 : decode cX21_areSizes 11 = .ok (.lconst 0, 1) := dc_9 (by decide +kernel)
theorem dX21_areSizes_12 : decode cX21_areSizes 12 = .ok (.lstore 5, 2) := dc_55 (a := 5) (by decide +kernel)
theorem dX21_areSizes_14 : decode cX21_areSizes 14 = .ok (.iconst 0, 1) := dc_3 (by decide +kernel)
theorem dX21_areSizes_15 : decode cX21_areSizes 15 = .ok (.istore 7, 2) := dc_54 (a := 7) (by decide +kernel)
theorem dX21_areSizes_17 : decode cX21_areSizes 17 = .ok (.iload 7, 2) := dc_21 (a := 7) (by decide +kernel)
theorem dX21_areSizes_19 : decode cX21_areSizes 19 = .ok (.bipush 12, 2) := dc_16 (a := 12) (v := 12) (by decide +kernel)
theorem dX21_areSizes_21 : decode cX21_areSizes 21 = .ok (.if_icmp .ge 50, 3) := dc_162 (a := 0) (b := 50) (v := 50) (by decide +kernel)
theorem dX21_areSizes_24 : decode cX21_areSizes 24 = .ok (.lload_n 1, 1) := dc_31 (by decide +kernel)
theorem dX21_areSizes_25 : decode cX21_areSizes 25 = .ok (.aload_n 0, 1) := dc_42 (by decide +kernel)
theorem dX21_areSizes_26 : decode cX21_areSizes 26 = .ok (.getfield 32, 3) := dc_180 (a := 0) (b := 32) (n := 32) (by decide +kernel)
theorem dX21_areSizes_29 : decode cX21_areSizes 29 = .ok (.iload 7, 2) := dc_21 (a := 7) (by decide +kernel)
theorem dX21_areSizes_31 : decode cX21_areSizes 31 = .ok (.iaload, 1) := dc_46 (by decide +kernel)
theorem dX21_areSizes_32 : decode cX21_areSizes 32 = .ok (.invokestatic 79, 3) := dc_184 (a := 0) (b := 79) (n := 79) (by decide +kernel)
theorem dX21_areSizes_35 : decode cX21_areSizes 35 = .ok (.ladd, 1) := dc_97 (by decide +kernel)
theorem dX21_areSizes_36 : decode cX21_areSizes 36 = .ok (.lstore_n 1, 1) := dc_64 (by decide +kernel)
theorem dX21_areSizes_37 : decode cX21_areSizes 37 = .ok (.lload_n 3, 1) := dc_33 (by decide +kernel)
theorem dX21_areSizes_38 : decode cX21_areSizes 38 = .ok (.aload_n 0, 1) := dc_42 (by decide +kernel)
theorem dX21_areSizes_39 : decode cX21_areSizes 39 = .ok (.getfield 32, 3) := dc_180 (a := 0) (b := 32) (n := 32) (by decide +kernel)
theorem dX21_areSizes_42 : decode cX21_areSizes 42 = .ok (.iload 7, 2) := dc_21 (a := 7) (by decide +kernel)
theorem dX21_areSizes_44 : decode cX21_areSizes 44 = .ok (.iconst 1, 1) := dc_4 (by decide +kernel)
theorem dX21_areSizes_45 : decode cX21_areSizes 45 = .ok (.iadd, 1) := dc_96 (by decide +kernel)
theorem dX21_areSizes_46 : decode cX21_areSizes 46 = .ok (.iaload, 1) := dc_46 (by decide +kernel)
theorem dX21_areSizes_47 : decode cX21_areSizes 47 = .ok (.i2l, 1) := dc_133 (by decide +kernel)
theorem dX21_areSizes_48 : decode cX21_areSizes 48 = .ok (.ladd, 1) := dc_97 (by decide +kernel)
theorem dX21_areSizes_49 : decode cX21_areSizes 49 = .ok (.lstore_n 3, 1) := dc_66 (by decide +kernel)
theorem dX21_areSizes_50 : decode cX21_areSizes 50 = .ok (.lload 5, 2) := dc_22 (a := 5) (by decide +kernel)
theorem dX21_areSizes_52 : decode cX21_areSizes 52 = .ok (.aload_n 0, 1) := dc_42 (by decide +kernel)
theorem dX21_areSizes_53 : decode cX21_areSizes 53 = .ok (.getfield 32, 3) := dc_180 (a := 0) (b := 32) (n := 32) (by decide +kernel)
theorem dX21_areSizes_56 : decode cX21_areSizes 56 = .ok (.iload 7, 2) := dc_21 (a := 7) (by decide +kernel)
theorem dX21_areSizes_58 : decode cX21_areSizes 58 = .ok (.iconst 3, 1) := dc_6 (by decide +kernel)
theorem dX21_areSizes_59 : decode cX21_areSizes 59 = .ok (.iadd, 1) := dc_96 (by decide +kernel)
theorem dX21_areSizes_60 : decode cX21_areSizes 60 = .ok (.iaload, 1) := dc_46 (by decide +kernel)
theorem dX21_areSizes_61 : decode cX21_areSizes 61 = .ok (.i2l, 1) := dc_133 (by decide +kernel)
theorem dX21_areSizes_62 : decode cX21_areSizes 62 = .ok (.ladd, 1) := dc_97 (by decide +kernel)
theorem dX21_areSizes_63 : decode cX21_areSizes 63 = .ok (.lstore 5, 2) := dc_55 (a := 5) (by decide +kernel)
theorem dX21_areSizes_65 : decode cX21_areSizes 65 = .ok (.iinc 7 4, 3) := dc_132 (a := 7) (b := 4) (v := 4) (by decide +kernel)
theorem dX21_areSizes_68 : decode cX21_areSizes 68 = .ok (.goto (-51), 3) := dc_167 (a := 255) (b := 205) (v := -51) (by decide +kernel)
theorem dX21_areSizes_71 : decode cX21_areSizes 71 = .ok (.iconst 0, 1) := dc_3 (by decide +kernel)
theorem dX21_areSizes_72 : decode cX21_areSizes 72 = .ok (.istore 7, 2) := dc_54 (a := 7) (by decide +kernel)
theorem dX21_areSizes_74 : decode cX21_areSizes 74 = .ok (.iload 7, 2) := dc_21 (a := 7) (by decide +kernel)
theorem dX21_areSizes_76 : decode cX21_areSizes 76 = .ok (.aload_n 0, 1) := dc_42 (by decide +kernel)
theorem dX21_areSizes_77 : decode cX21_areSizes 77 = .ok (.getfield 12, 3) := dc_180 (a := 0) (b := 12) (n := 12) (by decide +kernel)
theorem dX21_areSizes_80 : decode cX21_areSizes 80 = .ok (.getfield 65, 3) := dc_180 (a := 0) (b := 65) (n := 65) (by decide +kernel)
theorem dX21_areSizes_83 : decode cX21_areSizes 83 = .ok (.if_icmp .ge 113, 3) := dc_162 (a := 0) (b := 113) (v := 113) (by decide +kernel)
theorem dX21_areSizes_86 : decode cX21_areSizes 86 = .ok (.aload_n 0, 1) := dc_42 (by decide +kernel)
theorem dX21_areSizes_87 : decode cX21_areSizes 87 = .ok (.getfield 12, 3) := dc_180 (a := 0) (b := 12) (n := 12) (by decide +kernel)
theorem dX21_areSizes_90 : decode cX21_areSizes 90 = .ok (.getfield 83, 3) := dc_180 (a := 0) (b := 83) (n := 83) (by decide +kernel)
theorem dX21_areSizes_93 : decode cX21_areSizes 93 = .ok (.iload 7, 2) := dc_21 (a := 7) (by decide +kernel)
theorem dX21_areSizes_95 : decode cX21_areSizes 95 = .ok (.baload, 1) := dc_51 (by decide +kernel)
theorem dX21_areSizes_96 : decode cX21_areSizes 96 = .ok (.istore 8, 2) := dc_54 (a := 8) (by decide +kernel)
theorem dX21_areSizes_98 : decode cX21_areSizes 98 = .ok (.iload 8, 2) := dc_21 (a := 8) (by decide +kernel)
theorem dX21_areSizes_100 : decode cX21_areSizes 100 = .ok (.iconst 4, 1) := dc_7 (by decide +kernel)
theorem dX21_areSizes_101 : decode cX21_areSizes 101 = .ok (.if_icmp .ne 6, 3) := dc_160 (a := 0) (b := 6) (v := 6) (by decide +kernel)
theorem dX21_areSizes_104 : decode cX21_areSizes 104 = .ok (.goto 86, 3) := dc_167 (a := 0) (b := 86) (v := 86) (by decide +kernel)
theorem dX21_areSizes_107 : decode cX21_areSizes 107 = .ok (.lload_n 1, 1) := dc_31 (by decide +kernel)
theorem dX21_areSizes_108 : decode cX21_areSizes 108 = .ok (.aload_n 0, 1) := dc_42 (by decide +kernel)
theorem dX21_areSizes_109 : decode cX21_areSizes 109 = .ok (.getfield 12, 3) := dc_180 (a := 0) (b := 12) (n := 12) (by decide +kernel)
theorem dX21_areSizes_112 : decode cX21_areSizes 112 = .ok (.getfield 87, 3) := dc_180 (a := 0) (b := 87) (n := 87) (by decide +kernel)
theorem dX21_areSizes_115 : decode cX21_areSizes 115 = .ok (.iload 7, 2) := dc_21 (a := 7) (by decide +kernel)
theorem dX21_areSizes_117 : decode cX21_areSizes 117 = .ok (.iaload, 1) := dc_46 (by decide +kernel)
theorem dX21_areSizes_118 : decode cX21_areSizes 118 = .ok (.invokestatic 90, 3) := dc_184 (a := 0) (b := 90) (n := 90) (by decide +kernel)
theorem dX21_areSizes_121 : decode cX21_areSizes 121 = .ok (.invokestatic 79, 3) := dc_184 (a := 0) (b := 79) (n := 79) (by decide +kernel)
theorem dX21_areSizes_124 : decode cX21_areSizes 124 = .ok (.ladd, 1) := dc_97 (by decide +kernel)
theorem dX21_areSizes_125 : decode cX21_areSizes 125 = .ok (.lstore_n 1, 1) := dc_64 (by decide +kernel)
theorem dX21_areSizes_126 : decode cX21_areSizes 126 = .ok (.iload 8, 2) := dc_21 (a := 8) (by decide +kernel)
theorem dX21_areSizes_128 : decode cX21_areSizes 128 = .ok (.iconst 5, 1) := dc_8 (by decide +kernel)
theorem dX21_areSizes_129 : decode cX21_areSizes 129 = .ok (.if_icmp .ne 22, 3) := dc_160 (a := 0) (b := 22) (v := 22) (by decide +kernel)
theorem dX21_areSizes_132 : decode cX21_areSizes 132 = .ok (.lload_n 1, 1) := dc_31 (by decide +kernel)
theorem dX21_areSizes_133 : decode cX21_areSizes 133 = .ok (.aload_n 0, 1) := dc_42 (by decide +kernel)
theorem dX21_areSizes_134 : decode cX21_areSizes 134 = .ok (.getfield 12, 3) := dc_180 (a := 0) (b := 12) (n := 12) (by decide +kernel)
theorem dX21_areSizes_137 : decode cX21_areSizes 137 = .ok (.getfield 94, 3) := dc_180 (a := 0) (b := 94) (n := 94) (by decide +kernel)
theorem dX21_areSizes_140 : decode cX21_areSizes 140 = .ok (.iload 7, 2) := dc_21 (a := 7) (by decide +kernel)
theorem dX21_areSizes_142 : decode cX21_areSizes 142 = .ok (.iaload, 1) := dc_46 (by decide +kernel)
theorem dX21_areSizes_143 : decode cX21_areSizes 143 = .ok (.invokestatic 90, 3) := dc_184 (a := 0) (b := 90) (n := 90) (by decide +kernel)
theorem dX21_areSizes_146 : decode cX21_areSizes 146 = .ok (.invokestatic 79, 3) := dc_184 (a := 0) (b := 79) (n := 79) (by decide +kernel)
theorem dX21_areSizes_149 : decode cX21_areSizes 149 = .ok (.ladd, 1) := dc_97 (by decide +kernel)
theorem dX21_areSizes_150 : decode cX21_areSizes 150 = .ok (.lstore_n 1, 1) := dc_64 (by decide +kernel)
theorem dX21_areSizes_151 : decode cX21_areSizes 151 = .ok (.iload 8, 2) := dc_21 (a := 8) (by decide +kernel)
theorem dX21_areSizes_153 : decode cX21_areSizes 153 = .ok (.iconst 1, 1) := dc_4 (by decide +kernel)
theorem dX21_areSizes_154 : decode cX21_areSizes 154 = .ok (.if_icmp .eq 6, 3) := dc_159 (a := 0) (b := 6) (v := 6) (by decide +kernel)
theorem dX21_areSizes_157 : decode cX21_areSizes 157 = .ok (.goto 33, 3) := dc_167 (a := 0) (b := 33) (v := 33) (by decide +kernel)
theorem dX21_areSizes_160 : decode cX21_areSizes 160 = .ok (.lload_n 3, 1) := dc_33 (by decide +kernel)
theorem dX21_areSizes_161 : decode cX21_areSizes 161 = .ok (.aload_n 0, 1) := dc_42 (by decide +kernel)
theorem dX21_areSizes_162 : decode cX21_areSizes 162 = .ok (.getfield 12, 3) := dc_180 (a := 0) (b := 12) (n := 12) (by decide +kernel)
theorem dX21_areSizes_165 : decode cX21_areSizes 165 = .ok (.getfield 94, 3) := dc_180 (a := 0) (b := 94) (n := 94) (by decide +kernel)
theorem dX21_areSizes_168 : decode cX21_areSizes 168 = .ok (.iload 7, 2) := dc_21 (a := 7) (by decide +kernel)
theorem dX21_areSizes_170 : decode cX21_areSizes 170 = .ok (.iaload, 1) := dc_46 (by decide +kernel)
theorem dX21_areSizes_171 : decode cX21_areSizes 171 = .ok (.i2l, 1) := dc_133 (by decide +kernel)
theorem dX21_areSizes_172 : decode cX21_areSizes 172 = .ok (.ladd, 1) := dc_97 (by decide +kernel)
theorem dX21_areSizes_173 : decode cX21_areSizes 173 = .ok (.lstore_n 3, 1) := dc_66 (by decide +kernel)
theorem dX21_areSizes_174 : decode cX21_areSizes 174 = .ok (.lload 5, 2) := dc_22 (a := 5) (by decide +kernel)
theorem dX21_areSizes_176 : decode cX21_areSizes 176 = .ok (.aload_n 0, 1) := dc_42 (by decide +kernel)
theorem dX21_areSizes_177 : decode cX21_areSizes 177 = .ok (.getfield 12, 3) := dc_180 (a := 0) (b := 12) (n := 12) (by decide +kernel)
theorem dX21_areSizes_180 : decode cX21_areSizes 180 = .ok (.getfield 97, 3) := dc_180 (a := 0) (b := 97) (n := 97) (by decide +kernel)
theorem dX21_areSizes_183 : decode cX21_areSizes 183 = .ok (.iload 7, 2) := dc_21 (a := 7) (by decide +kernel)
theorem dX21_areSizes_185 : decode cX21_areSizes 185 = .ok (.iaload, 1) := dc_46 (by decide +kernel)
theorem dX21_areSizes_186 : decode cX21_areSizes 186 = .ok (.i2l, 1) := dc_133 (by decide +kernel)
theorem dX21_areSizes_187 : decode cX21_areSizes 187 = .ok (.ladd, 1) := dc_97 (by decide +kernel)
theorem dX21_areSizes_188 : decode cX21_areSizes 188 = .ok (.lstore 5, 2) := dc_55 (a := 5) (by decide +kernel)
theorem dX21_areSizes_190 : decode cX21_areSizes 190 = .ok (.iinc 7 1, 3) := dc_132 (a := 7) (b := 1) (v := 1) (by decide +kernel)
theorem dX21_areSizes_193 : decode cX21_areSizes 193 = .ok (.goto (-119), 3) := dc_167 (a := 255) (b := 137) (v := -119) (by decide +kernel)
theorem dX21_areSizes_196 : decode cX21_areSizes 196 = .ok (.lload_n 1, 1) := dc_31 (by decide +kernel)
theorem dX21_areSizes_197 : decode cX21_areSizes 197 = .ok (.ldc2_w 100, 3) := dc_20 (a := 0) (b := 100) (n := 100) (by decide +kernel)
theorem dX21_areSizes_200 : decode cX21_areSizes 200 = .ok (.lcmp, 1) := dc_148 (by decide +kernel)
theorem dX21_areSizes_201 : decode cX21_areSizes 201 = .ok (.ifCond .gt 24, 3) := dc_157 (a := 0) (b := 24) (v := 24) (by decide +kernel)
theorem dX21_areSizes_204 : decode cX21_areSizes 204 = .ok (.lload_n 3, 1) := dc_33 (by decide +kernel)
theorem dX21_areSizes_205 : decode cX21_areSizes 205 = .ok (.ldc2_w 100, 3) := dc_20 (a := 0) (b := 100) (n := 100) (by decide +kernel)
theorem dX21_areSizes_208 : decode cX21_areSizes 208 = .ok (.lcmp, 1) := dc_148 (by decide +kernel)
theorem dX21_areSizes_209 : decode cX21_areSizes 209 = .ok (.ifCond .gt 16, 3) := dc_157 (a := 0) (b := 16) (v := 16) (by decide +kernel)
theorem dX21_areSizes_212 : decode cX21_areSizes 212 = .ok (.lload 5, 2) := dc_22 (a := 5) (by decide +kernel)
theorem dX21_areSizes_214 : decode cX21_areSizes 214 = .ok (.ldc2_w 100, 3) := dc_20 (a := 0) (b := 100) (n := 100) (by decide +kernel)
theorem dX21_areSizes_217 : decode cX21_areSizes 217 = .ok (.lcmp, 1) := dc_148 (by decide +kernel)
theorem dX21_areSizes_218 : decode cX21_areSizes 218 = .ok (.ifCond .gt 7, 3) := dc_157 (a := 0) (b := 7) (v := 7) (by decide +kernel)
theorem dX21_areSizes_221 : decode cX21_areSizes 221 = .ok (.iconst 1, 1) := dc_4 (by decide +kernel)
theorem dX21_areSizes_222 : decode cX21_areSizes 222 = .ok (.goto 4, 3) := dc_167 (a := 0) (b := 4) (v := 4) (by decide +kernel)
theorem dX21_areSizes_225 : decode cX21_areSizes 225 = .ok (.iconst 0, 1) := dc_3 (by decide +kernel)
theorem dX21_areSizes_226 : decode cX21_areSizes 226 = .ok (.ireturn, 1) := dc_172 (by decide +kernel)
theorem GX21_65 {w : eW} {d : Nat} {Y : eY} {pc : Nat} {ls : eL} {st : List Value} {h : eH} {Q : eO → eH → Prop} {a : Nat} {x : Int32} (hf : g_I 21 h a 5 = some x) (hd : decode Y.2.1 pc = .ok (.getfield 65, 3)) (hY : Y.1.cls = RX21) (kk : wp w d Y (pc + 3) ls (.int x :: st) h Q) : wp w d Y pc ls (.ref a :: st) h Q := x_gIN (ci := 21) (k := 5) hf hd rfl (by decide) (by rw [hY]; exact q1261) kk
theorem GX21_83 {w : eW} {d : Nat} {Y : eY} {pc : Nat} {ls : eL} {st : List Value} {h : eH} {Q : eO → eH → Prop} {a : Nat} {x : Nat} (hf : g_A 21 h a 0 = some x) (hd : decode Y.2.1 pc = .ok (.getfield 83, 3)) (hY : Y.1.cls = RX21) (kk : wp w d Y (pc + 3) ls (.ref x :: st) h Q) : wp w d Y pc ls (.ref a :: st) h Q := x_gAN (ci := 21) (k := 0) hf hd rfl (by decide) (by rw [hY]; exact q1246) kk
theorem GX21_87 {w : eW} {d : Nat} {Y : eY} {pc : Nat} {ls : eL} {st : List Value} {h : eH} {Q : eO → eH → Prop} {a : Nat} {x : Nat} (hf : g_A 21 h a 1 = some x) (hd : decode Y.2.1 pc = .ok (.getfield 87, 3)) (hY : Y.1.cls = RX21) (kk : wp w d Y (pc + 3) ls (.ref x :: st) h Q) : wp w d Y pc ls (.ref a :: st) h Q := x_gAN (ci := 21) (k := 1) hf hd rfl (by decide) (by rw [hY]; exact q1250) kk
theorem GX21_94 {w : eW} {d : Nat} {Y : eY} {pc : Nat} {ls : eL} {st : List Value} {h : eH} {Q : eO → eH → Prop} {a : Nat} {x : Nat} (hf : g_A 21 h a 2 = some x) (hd : decode Y.2.1 pc = .ok (.getfield 94, 3)) (hY : Y.1.cls = RX21) (kk : wp w d Y (pc + 3) ls (.ref x :: st) h Q) : wp w d Y pc ls (.ref a :: st) h Q := x_gAN (ci := 21) (k := 2) hf hd rfl (by decide) (by rw [hY]; exact q1253) kk
theorem GX21_97 {w : eW} {d : Nat} {Y : eY} {pc : Nat} {ls : eL} {st : List Value} {h : eH} {Q : eO → eH → Prop} {a : Nat} {x : Nat} (hf : g_A 21 h a 4 = some x) (hd : decode Y.2.1 pc = .ok (.getfield 97, 3)) (hY : Y.1.cls = RX21) (kk : wp w d Y (pc + 3) ls (.ref x :: st) h Q) : wp w d Y pc ls (.ref a :: st) h Q := x_gAN (ci := 21) (k := 4) hf hd rfl (by decide) (by rw [hY]; exact q1258) kk
def fX21_areSizes_b190 (N : Nat) (k74 : Nat → Int64 → Int64 → Int64 → Int32 → eH → Option (Int32 × eH)) (l0 : Nat) (l1 : Int64) (l3 : Int64) (l5 : Int64) (l7 : Int32) (h : eH) : Option (Int32 × eH) :=
  k74 l0 l1 l3 l5 (l7 + (1 : Int32)) h
theorem pX21_areSizes_b190 {w : eW} {d : Nat} (hd : 1 ≤ d + 1) {N : Nat} {k74 : Nat → Int64 → Int64 → Int64 → Int32 → eH → Option (Int32 × eH)} (hk74 : ∀ l0 l1 l3 l5 l7 h q, k74 l0 l1 l3 l5 l7 h = some q → wp w (d + 1) YX21_areSizes 74 [some (.ref l0), some (.long l1), none, some (.long l3), none, some (.long l5), none, some (.int l7), none] [] h (e_is (e_rn c_I q))) {l0 : Nat} {l1 : Int64} {l3 : Int64} {l5 : Int64} {l7 : Int32} {h : eH} {q} (hf : fX21_areSizes_b190 N k74 l0 l1 l3 l5 l7 h = some q) : wp w (d + 1) YX21_areSizes 190 [some (.ref l0), some (.long l1), none, some (.long l3), none, some (.long l5), none, some (.int l7), none] [] h (e_is (e_rn c_I q)) := by
  unfold fX21_areSizes_b190 at hf
  refine w_iinc dX21_areSizes_190 (v := (l7 + (1 : Int32))) rfl rfl (by decide) (ls' := [some (.ref l0), some (.long l1), none, some (.long l3), none, some (.long l5), none, some (.int (l7 + (1 : Int32))), none]) rfl ?_
  refine w_goto 74 dX21_areSizes_193 (by decide) ?_
  exact (hk74 _ _ _ _ _ _ _ hf).to ⟨rfl, rfl, rfl, rfl, rfl, trivial⟩
def fX21_areSizes_b151 (N : Nat) (k74 : Nat → Int64 → Int64 → Int64 → Int32 → eH → Option (Int32 × eH)) (l0 : Nat) (l1 : Int64) (l3 : Int64) (l5 : Int64) (l7 : Int32) (l8 : Int32) (h : eH) : Option (Int32 × eH) :=
  if l8 = (1 : Int32) then
    (g_A 20 h l0 0).bind fun a2 =>
    (g_A 21 h a2 2).bind fun a4 =>
    (r_I 100 h a4 l7).bind fun x6 =>
    (g_A 20 h l0 0).bind fun a8 =>
    (g_A 21 h a8 4).bind fun a10 =>
    (r_I 100 h a10 l7).bind fun x12 =>
    fX21_areSizes_b190 N k74 l0 l1 (l3 + (x6).toInt64) (l5 + (x12).toInt64) l7 h
  else
    fX21_areSizes_b190 N k74 l0 l1 l3 l5 l7 h
theorem pX21_areSizes_b151 {w : eW} {d : Nat} (hd : 1 ≤ d + 1) {N : Nat} {k74 : Nat → Int64 → Int64 → Int64 → Int32 → eH → Option (Int32 × eH)} (hk74 : ∀ l0 l1 l3 l5 l7 h q, k74 l0 l1 l3 l5 l7 h = some q → wp w (d + 1) YX21_areSizes 74 [some (.ref l0), some (.long l1), none, some (.long l3), none, some (.long l5), none, some (.int l7), none] [] h (e_is (e_rn c_I q))) {l0 : Nat} {l1 : Int64} {l3 : Int64} {l5 : Int64} {l7 : Int32} {l8 : Int32} {h : eH} {q} (hf : fX21_areSizes_b151 N k74 l0 l1 l3 l5 l7 l8 h = some q) : wp w (d + 1) YX21_areSizes 151 [some (.ref l0), some (.long l1), none, some (.long l3), none, some (.long l5), none, some (.int l7), some (.int l8)] [] h (e_is (e_rn c_I q)) := by
  unfold fX21_areSizes_b151 at hf
  refine w_iload dX21_areSizes_151 rfl ?_
  refine w_iconst dX21_areSizes_153 (v := 1) (by decide) ?_
  refine w_icmp_eq 160 dX21_areSizes_154 (by decide) (fun c1 => ?_) (fun c1 => ?_)
  · replace hf := (if_pos (show l8 = (1 : Int32) from c1)).symm.trans hf
    refine w_lload_n dX21_areSizes_160 rfl rfl ?_
    refine w_aload_n dX21_areSizes_161 rfl rfl ?_
    obtain ⟨a2, b3, hf⟩ := Option.bind_eq_some_iff.mp hf
    refine GX21_12 b3 dX21_areSizes_162 rfl ?_
    obtain ⟨a4, b5, hf⟩ := Option.bind_eq_some_iff.mp hf
    refine GX21_94 b5 dX21_areSizes_165 rfl ?_
    refine w_iload dX21_areSizes_168 rfl ?_
    obtain ⟨x6, b7, hf⟩ := Option.bind_eq_some_iff.mp hf
    refine x_rI b7 dX21_areSizes_170 ?_
    refine w_i2l dX21_areSizes_171 ?_
    refine w_ladd dX21_areSizes_172 ?_
    refine w_lstore_n dX21_areSizes_173 rfl (by decide) (ls' := [some (.ref l0), some (.long l1), none, some (.long (l3 + (x6).toInt64)), none, some (.long l5), none, some (.int l7), some (.int l8)]) rfl ?_
    refine w_lload dX21_areSizes_174 rfl ?_
    refine w_aload_n dX21_areSizes_176 rfl rfl ?_
    obtain ⟨a8, b9, hf⟩ := Option.bind_eq_some_iff.mp hf
    refine GX21_12 b9 dX21_areSizes_177 rfl ?_
    obtain ⟨a10, b11, hf⟩ := Option.bind_eq_some_iff.mp hf
    refine GX21_97 b11 dX21_areSizes_180 rfl ?_
    refine w_iload dX21_areSizes_183 rfl ?_
    obtain ⟨x12, b13, hf⟩ := Option.bind_eq_some_iff.mp hf
    refine x_rI b13 dX21_areSizes_185 ?_
    refine w_i2l dX21_areSizes_186 ?_
    refine w_ladd dX21_areSizes_187 ?_
    refine w_lstore dX21_areSizes_188 (by decide) (ls' := [some (.ref l0), some (.long l1), none, some (.long (l3 + (x6).toInt64)), none, some (.long (l5 + (x12).toInt64)), none, some (.int l7), some (.int l8)]) rfl ?_
    exact (pX21_areSizes_b190 hd hk74 hf).to ⟨rfl, rfl, rfl, rfl, rfl, trivial⟩
  · replace hf := (if_neg (show ¬ (l8 = (1 : Int32)) from c1)).symm.trans hf
    refine w_goto 190 dX21_areSizes_157 (by decide) ?_
    exact (pX21_areSizes_b190 hd hk74 hf).to ⟨rfl, rfl, rfl, rfl, rfl, trivial⟩
def fX21_areSizes_b226 (N : Nat) (s0 : Int32) (h : eH) : Option (Int32 × eH) :=
  z_r s0 (s0, h)
theorem pX21_areSizes_b226 {w : eW} {d : Nat} (hd : 1 ≤ d + 1) {N : Nat} {s0 : Int32} {h : eH} {q} (hf : fX21_areSizes_b226 N s0 h = some q) : wp w (d + 1) YX21_areSizes 226 [none, none, none, none, none, none, none, none, none] [.int s0] h (e_is (e_rn c_I q)) := by
  unfold fX21_areSizes_b226 at hf
  obtain ⟨b1, rfl⟩ := z_r_some hf
  exact w_iret dX21_areSizes_226 rfl b1 rfl
def fX21_areSizes_b225 (N : Nat)  (h : eH) : Option (Int32 × eH) :=
  fX21_areSizes_b226 N (0 : Int32) h
theorem pX21_areSizes_b225 {w : eW} {d : Nat} (hd : 1 ≤ d + 1) {N : Nat}  {h : eH} {q} (hf : fX21_areSizes_b225 N h = some q) : wp w (d + 1) YX21_areSizes 225 [none, none, none, none, none, none, none, none, none] [] h (e_is (e_rn c_I q)) := by
  unfold fX21_areSizes_b225 at hf
  refine w_iconst dX21_areSizes_225 (v := 0) (by decide) ?_
  exact (pX21_areSizes_b226 hd hf).to trivial
def fX21_areSizes_b74 (N : Nat) : Nat → Nat → Int64 → Int64 → Int64 → Int32 → eH → Option (Int32 × eH)
  | 0, _, _, _, _, _, _ => none
  | n + 1, l0, l1, l3, l5, l7, h =>
    (g_A 20 h l0 0).bind fun a1 =>
    (g_I 21 h a1 5).bind fun x3 =>
    if x3 ≤ l7 then
      if 0 < (lg_cmp l1 (1073741823 : Int64)) then
        fX21_areSizes_b225 N h
      else
        if 0 < (lg_cmp l3 (1073741823 : Int64)) then
          fX21_areSizes_b225 N h
        else
          if 0 < (lg_cmp l5 (1073741823 : Int64)) then
            fX21_areSizes_b225 N h
          else
            fX21_areSizes_b226 N (1 : Int32) h
    else
      (g_A 20 h l0 0).bind fun a9 =>
      (g_A 21 h a9 0).bind fun a11 =>
      (r_I 102 h a11 l7).bind fun x13 =>
      if ¬ x13 = (4 : Int32) then
        (g_A 20 h l0 0).bind fun a16 =>
        (g_A 21 h a16 1).bind fun a18 =>
        (r_I 100 h a18 l7).bind fun x20 =>
        (fX1_solid x20 h).bind fun q22 =>
        (fX21_plain q22.1 q22.2).bind fun q23 =>
        if ¬ x13 = (5 : Int32) then
          fX21_areSizes_b151 N (fX21_areSizes_b74 N n) l0 (l1 + q23.1) l3 l5 l7 x13 q23.2
        else
          (g_A 20 q23.2 l0 0).bind fun a25 =>
          (g_A 21 q23.2 a25 2).bind fun a27 =>
          (r_I 100 q23.2 a27 l7).bind fun x29 =>
          (fX1_solid x29 q23.2).bind fun q31 =>
          (fX21_plain q31.1 q31.2).bind fun q32 =>
          fX21_areSizes_b151 N (fX21_areSizes_b74 N n) l0 ((l1 + q23.1) + q32.1) l3 l5 l7 x13 q32.2
      else
        fX21_areSizes_b190 N (fX21_areSizes_b74 N n) l0 l1 l3 l5 l7 h
theorem pX21_areSizes_b74 {w : eW} {d : Nat} (hd : 1 ≤ d + 1) {N : Nat} : ∀ (n : Nat) l0 l1 l3 l5 l7 h q, fX21_areSizes_b74 N n l0 l1 l3 l5 l7 h = some q → wp w (d + 1) YX21_areSizes 74 [some (.ref l0), some (.long l1), none, some (.long l3), none, some (.long l5), none, some (.int l7), none] [] h (e_is (e_rn c_I q)) := by
  intro n
  induction n with
  | zero => intro l0 l1 l3 l5 l7 h q hf; simp [fX21_areSizes_b74] at hf
  | succ n ih =>
    intro l0 l1 l3 l5 l7 h q hf
    rw [fX21_areSizes_b74] at hf
    refine w_iload dX21_areSizes_74 rfl ?_
    refine w_aload_n dX21_areSizes_76 rfl rfl ?_
    obtain ⟨a1, b2, hf⟩ := Option.bind_eq_some_iff.mp hf
    refine GX21_12 b2 dX21_areSizes_77 rfl ?_
    obtain ⟨x3, b4, hf⟩ := Option.bind_eq_some_iff.mp hf
    refine GX21_65 b4 dX21_areSizes_80 rfl ?_
    refine w_icmp_ge 196 dX21_areSizes_83 (by decide) (fun c5 => ?_) (fun c5 => ?_)
    · replace hf := (if_pos (show x3 ≤ l7 from c5)).symm.trans hf
      refine w_lload_n dX21_areSizes_196 rfl rfl ?_
      refine w_ldc2 dX21_areSizes_197 q3708 ?_
      refine w_lcmp dX21_areSizes_200 ?_
      refine w_if_gt 225 dX21_areSizes_201 (by decide) (fun c6 => ?_) (fun c6 => ?_)
      · replace hf := (if_pos (show 0 < (lg_cmp l1 (1073741823 : Int64)) from c6)).symm.trans hf
        exact (pX21_areSizes_b225 hd hf).to trivial
      · replace hf := (if_neg (show ¬ (0 < (lg_cmp l1 (1073741823 : Int64))) from c6)).symm.trans hf
        refine w_lload_n dX21_areSizes_204 rfl rfl ?_
        refine w_ldc2 dX21_areSizes_205 q3708 ?_
        refine w_lcmp dX21_areSizes_208 ?_
        refine w_if_gt 225 dX21_areSizes_209 (by decide) (fun c7 => ?_) (fun c7 => ?_)
        · replace hf := (if_pos (show 0 < (lg_cmp l3 (1073741823 : Int64)) from c7)).symm.trans hf
          exact (pX21_areSizes_b225 hd hf).to trivial
        · replace hf := (if_neg (show ¬ (0 < (lg_cmp l3 (1073741823 : Int64))) from c7)).symm.trans hf
          refine w_lload dX21_areSizes_212 rfl ?_
          refine w_ldc2 dX21_areSizes_214 q3708 ?_
          refine w_lcmp dX21_areSizes_217 ?_
          refine w_if_gt 225 dX21_areSizes_218 (by decide) (fun c8 => ?_) (fun c8 => ?_)
          · replace hf := (if_pos (show 0 < (lg_cmp l5 (1073741823 : Int64)) from c8)).symm.trans hf
            exact (pX21_areSizes_b225 hd hf).to trivial
          · replace hf := (if_neg (show ¬ (0 < (lg_cmp l5 (1073741823 : Int64))) from c8)).symm.trans hf
            refine w_iconst dX21_areSizes_221 (v := 1) (by decide) ?_
            refine w_goto 226 dX21_areSizes_222 (by decide) ?_
            exact (pX21_areSizes_b226 hd hf).to trivial
    · replace hf := (if_neg (show ¬ (x3 ≤ l7) from c5)).symm.trans hf
      refine w_aload_n dX21_areSizes_86 rfl rfl ?_
      obtain ⟨a9, b10, hf⟩ := Option.bind_eq_some_iff.mp hf
      refine GX21_12 b10 dX21_areSizes_87 rfl ?_
      obtain ⟨a11, b12, hf⟩ := Option.bind_eq_some_iff.mp hf
      refine GX21_83 b12 dX21_areSizes_90 rfl ?_
      refine w_iload dX21_areSizes_93 rfl ?_
      obtain ⟨x13, b14, hf⟩ := Option.bind_eq_some_iff.mp hf
      refine x_rB b14 dX21_areSizes_95 ?_
      refine w_istore dX21_areSizes_96 (by decide) (ls' := [some (.ref l0), some (.long l1), none, some (.long l3), none, some (.long l5), none, some (.int l7), some (.int x13)]) rfl ?_
      refine w_iload dX21_areSizes_98 rfl ?_
      refine w_iconst dX21_areSizes_100 (v := 4) (by decide) ?_
      refine w_icmp_ne 107 dX21_areSizes_101 (by decide) (fun c15 => ?_) (fun c15 => ?_)
      · replace hf := (if_pos (show ¬ x13 = (4 : Int32) from c15)).symm.trans hf
        refine w_lload_n dX21_areSizes_107 rfl rfl ?_
        refine w_aload_n dX21_areSizes_108 rfl rfl ?_
        obtain ⟨a16, b17, hf⟩ := Option.bind_eq_some_iff.mp hf
        refine GX21_12 b17 dX21_areSizes_109 rfl ?_
        obtain ⟨a18, b19, hf⟩ := Option.bind_eq_some_iff.mp hf
        refine GX21_87 b19 dX21_areSizes_112 rfl ?_
        refine w_iload dX21_areSizes_115 rfl ?_
        obtain ⟨x20, b21, hf⟩ := Option.bind_eq_some_iff.mp hf
        refine x_rI b21 dX21_areSizes_117 ?_
        refine x_cnI hf (e_stSN (Yc := YX1_solid) (av := [.int x20]) (st := [.long l1]) dX21_areSizes_118 q3704 mX1_solid) mX1_solid.2.2.1 mX1_solid.2.2.2.2.1 (Nat.le_of_ble_eq_true rfl) (Nat.le_of_ble_eq_true rfl) (fun q hq => pX1_solid (by omega) hq) (fun q22 hf => ?_)
        refine x_cnJ hf (e_stS (Yc := YX21_plain) (av := [.int q22.1]) (st := [.long l1]) dX21_areSizes_121 q3701 mX21_plain) mX21_plain.2.2.1 mX21_plain.2.2.2.2.1 (Nat.le_of_ble_eq_true rfl) (Nat.le_of_ble_eq_true rfl) (fun q hq => pX21_plain (by omega) hq) (fun q23 hf => ?_)
        refine w_ladd dX21_areSizes_124 ?_
        refine w_lstore_n dX21_areSizes_125 rfl (by decide) (ls' := [some (.ref l0), some (.long (l1 + q23.1)), none, some (.long l3), none, some (.long l5), none, some (.int l7), some (.int x13)]) rfl ?_
        refine w_iload dX21_areSizes_126 rfl ?_
        refine w_iconst dX21_areSizes_128 (v := 5) (by decide) ?_
        refine w_icmp_ne 151 dX21_areSizes_129 (by decide) (fun c24 => ?_) (fun c24 => ?_)
        · replace hf := (if_pos (show ¬ x13 = (5 : Int32) from c24)).symm.trans hf
          exact (pX21_areSizes_b151 hd ih hf).to ⟨rfl, rfl, rfl, rfl, rfl, rfl, trivial⟩
        · replace hf := (if_neg (show ¬ (¬ x13 = (5 : Int32)) from (fun z => z c24))).symm.trans hf
          refine w_lload_n dX21_areSizes_132 rfl rfl ?_
          refine w_aload_n dX21_areSizes_133 rfl rfl ?_
          obtain ⟨a25, b26, hf⟩ := Option.bind_eq_some_iff.mp hf
          refine GX21_12 b26 dX21_areSizes_134 rfl ?_
          obtain ⟨a27, b28, hf⟩ := Option.bind_eq_some_iff.mp hf
          refine GX21_94 b28 dX21_areSizes_137 rfl ?_
          refine w_iload dX21_areSizes_140 rfl ?_
          obtain ⟨x29, b30, hf⟩ := Option.bind_eq_some_iff.mp hf
          refine x_rI b30 dX21_areSizes_142 ?_
          refine x_cnI hf (e_stSN (Yc := YX1_solid) (av := [.int x29]) (st := [.long (l1 + q23.1)]) dX21_areSizes_143 q3704 mX1_solid) mX1_solid.2.2.1 mX1_solid.2.2.2.2.1 (Nat.le_of_ble_eq_true rfl) (Nat.le_of_ble_eq_true rfl) (fun q hq => pX1_solid (by omega) hq) (fun q31 hf => ?_)
          refine x_cnJ hf (e_stS (Yc := YX21_plain) (av := [.int q31.1]) (st := [.long (l1 + q23.1)]) dX21_areSizes_146 q3701 mX21_plain) mX21_plain.2.2.1 mX21_plain.2.2.2.2.1 (Nat.le_of_ble_eq_true rfl) (Nat.le_of_ble_eq_true rfl) (fun q hq => pX21_plain (by omega) hq) (fun q32 hf => ?_)
          refine w_ladd dX21_areSizes_149 ?_
          refine w_lstore_n dX21_areSizes_150 rfl (by decide) (ls' := [some (.ref l0), some (.long ((l1 + q23.1) + q32.1)), none, some (.long l3), none, some (.long l5), none, some (.int l7), some (.int x13)]) rfl ?_
          exact (pX21_areSizes_b151 hd ih hf).to ⟨rfl, rfl, rfl, rfl, rfl, rfl, trivial⟩
      · replace hf := (if_neg (show ¬ (¬ x13 = (4 : Int32)) from (fun z => z c15))).symm.trans hf
        refine w_goto 190 dX21_areSizes_104 (by decide) ?_
        exact (pX21_areSizes_b190 hd ih hf).to ⟨rfl, rfl, rfl, rfl, rfl, trivial⟩
def fX21_areSizes_b17 (N : Nat) : Nat → Nat → Int64 → Int64 → Int64 → Int32 → eH → Option (Int32 × eH)
  | 0, _, _, _, _, _, _ => none
  | n + 1, l0, l1, l3, l5, l7, h =>
    if (12 : Int32) ≤ l7 then
      fX21_areSizes_b74 N N l0 l1 l3 l5 (0 : Int32) h
    else
      (g_A 20 h l0 4).bind fun a2 =>
      (r_I 100 h a2 l7).bind fun x4 =>
      (fX21_plain x4 h).bind fun q6 =>
      (g_A 20 q6.2 l0 4).bind fun a7 =>
      (r_I 100 q6.2 a7 (l7 + (1 : Int32))).bind fun x9 =>
      (g_A 20 q6.2 l0 4).bind fun a11 =>
      (r_I 100 q6.2 a11 (l7 + (3 : Int32))).bind fun x13 =>
      fX21_areSizes_b17 N n l0 (l1 + q6.1) (l3 + (x9).toInt64) (l5 + (x13).toInt64) (l7 + (4 : Int32)) q6.2
theorem pX21_areSizes_b17 {w : eW} {d : Nat} (hd : 1 ≤ d + 1) {N : Nat} : ∀ (n : Nat) l0 l1 l3 l5 l7 h q, fX21_areSizes_b17 N n l0 l1 l3 l5 l7 h = some q → wp w (d + 1) YX21_areSizes 17 [some (.ref l0), some (.long l1), none, some (.long l3), none, some (.long l5), none, some (.int l7), none] [] h (e_is (e_rn c_I q)) := by
  intro n
  induction n with
  | zero => intro l0 l1 l3 l5 l7 h q hf; simp [fX21_areSizes_b17] at hf
  | succ n ih =>
    intro l0 l1 l3 l5 l7 h q hf
    rw [fX21_areSizes_b17] at hf
    refine w_iload dX21_areSizes_17 rfl ?_
    refine w_bipush dX21_areSizes_19 (v := 12) (by decide) ?_
    refine w_icmp_ge 71 dX21_areSizes_21 (by decide) (fun c1 => ?_) (fun c1 => ?_)
    · replace hf := (if_pos (show (12 : Int32) ≤ l7 from c1)).symm.trans hf
      refine w_iconst dX21_areSizes_71 (v := 0) (by decide) ?_
      refine w_istore dX21_areSizes_72 (by decide) (ls' := [some (.ref l0), some (.long l1), none, some (.long l3), none, some (.long l5), none, some (.int (0 : Int32)), none]) rfl ?_
      exact (pX21_areSizes_b74 hd N _ _ _ _ _ _ _ hf).to ⟨rfl, rfl, rfl, rfl, rfl, trivial⟩
    · replace hf := (if_neg (show ¬ ((12 : Int32) ≤ l7) from c1)).symm.trans hf
      refine w_lload_n dX21_areSizes_24 rfl rfl ?_
      refine w_aload_n dX21_areSizes_25 rfl rfl ?_
      obtain ⟨a2, b3, hf⟩ := Option.bind_eq_some_iff.mp hf
      refine GX21_32 b3 dX21_areSizes_26 rfl ?_
      refine w_iload dX21_areSizes_29 rfl ?_
      obtain ⟨x4, b5, hf⟩ := Option.bind_eq_some_iff.mp hf
      refine x_rI b5 dX21_areSizes_31 ?_
      refine x_cnJ hf (e_stS (Yc := YX21_plain) (av := [.int x4]) (st := [.long l1]) dX21_areSizes_32 q3701 mX21_plain) mX21_plain.2.2.1 mX21_plain.2.2.2.2.1 (Nat.le_of_ble_eq_true rfl) (Nat.le_of_ble_eq_true rfl) (fun q hq => pX21_plain (by omega) hq) (fun q6 hf => ?_)
      refine w_ladd dX21_areSizes_35 ?_
      refine w_lstore_n dX21_areSizes_36 rfl (by decide) (ls' := [some (.ref l0), some (.long (l1 + q6.1)), none, some (.long l3), none, some (.long l5), none, some (.int l7), none]) rfl ?_
      refine w_lload_n dX21_areSizes_37 rfl rfl ?_
      refine w_aload_n dX21_areSizes_38 rfl rfl ?_
      obtain ⟨a7, b8, hf⟩ := Option.bind_eq_some_iff.mp hf
      refine GX21_32 b8 dX21_areSizes_39 rfl ?_
      refine w_iload dX21_areSizes_42 rfl ?_
      refine w_iconst dX21_areSizes_44 (v := 1) (by decide) ?_
      refine w_iadd dX21_areSizes_45 ?_
      obtain ⟨x9, b10, hf⟩ := Option.bind_eq_some_iff.mp hf
      refine x_rI b10 dX21_areSizes_46 ?_
      refine w_i2l dX21_areSizes_47 ?_
      refine w_ladd dX21_areSizes_48 ?_
      refine w_lstore_n dX21_areSizes_49 rfl (by decide) (ls' := [some (.ref l0), some (.long (l1 + q6.1)), none, some (.long (l3 + (x9).toInt64)), none, some (.long l5), none, some (.int l7), none]) rfl ?_
      refine w_lload dX21_areSizes_50 rfl ?_
      refine w_aload_n dX21_areSizes_52 rfl rfl ?_
      obtain ⟨a11, b12, hf⟩ := Option.bind_eq_some_iff.mp hf
      refine GX21_32 b12 dX21_areSizes_53 rfl ?_
      refine w_iload dX21_areSizes_56 rfl ?_
      refine w_iconst dX21_areSizes_58 (v := 3) (by decide) ?_
      refine w_iadd dX21_areSizes_59 ?_
      obtain ⟨x13, b14, hf⟩ := Option.bind_eq_some_iff.mp hf
      refine x_rI b14 dX21_areSizes_60 ?_
      refine w_i2l dX21_areSizes_61 ?_
      refine w_ladd dX21_areSizes_62 ?_
      refine w_lstore dX21_areSizes_63 (by decide) (ls' := [some (.ref l0), some (.long (l1 + q6.1)), none, some (.long (l3 + (x9).toInt64)), none, some (.long (l5 + (x13).toInt64)), none, some (.int l7), none]) rfl ?_
      refine w_iinc dX21_areSizes_65 (v := (l7 + (4 : Int32))) rfl rfl (by decide) (ls' := [some (.ref l0), some (.long (l1 + q6.1)), none, some (.long (l3 + (x9).toInt64)), none, some (.long (l5 + (x13).toInt64)), none, some (.int (l7 + (4 : Int32))), none]) rfl ?_
      refine w_goto 17 dX21_areSizes_68 (by decide) ?_
      exact (ih _ _ _ _ _ _ _ hf).to ⟨rfl, rfl, rfl, rfl, rfl, trivial⟩
def fX21_areSizes (N : Nat) (this : Nat) (h : eH) : Option (Int32 × eH) :=
  (g_A 20 h this 2).bind fun a1 =>
  (r_I 100 h a1 (8 : Int32)).bind fun x3 =>
  fX21_areSizes_b17 N N this (0 : Int64) (x3).toInt64 (0 : Int64) (0 : Int32) h
theorem pX21_areSizes {w : eW} {d : Nat} (hd : 1 ≤ d) {N : Nat} {this : Nat} {h : eH} {q} (hf : fX21_areSizes N this h = some q) : wm w d YX21_areSizes [.ref this] h (e_is (e_rn c_I q)) := by
  obtain ⟨d, rfl⟩ : ∃ e, d = e + 1 := ⟨d - 1, by omega⟩
  show wp w (d + 1) YX21_areSizes 0 [some (.ref this), none, none, none, none, none, none, none, none] [] h _
  unfold fX21_areSizes at hf
  refine w_lconst dX21_areSizes_0 (v := 0) (by decide) ?_
  refine w_lstore_n dX21_areSizes_1 rfl (by decide) (ls' := [some (.ref this), some (.long (0 : Int64)), none, none, none, none, none, none, none]) rfl ?_
  refine w_aload_n dX21_areSizes_2 rfl rfl ?_
  obtain ⟨a1, b2, hf⟩ := Option.bind_eq_some_iff.mp hf
  refine GX21_25 b2 dX21_areSizes_3 rfl ?_
  refine w_bipush dX21_areSizes_6 (v := 8) (by decide) ?_
  obtain ⟨x3, b4, hf⟩ := Option.bind_eq_some_iff.mp hf
  refine x_rI b4 dX21_areSizes_8 ?_
  refine w_i2l dX21_areSizes_9 ?_
  refine w_lstore_n dX21_areSizes_10 rfl (by decide) (ls' := [some (.ref this), some (.long (0 : Int64)), none, some (.long (x3).toInt64), none, none, none, none, none]) rfl ?_
  refine w_lconst dX21_areSizes_11 (v := 0) (by decide) ?_
  refine w_lstore dX21_areSizes_12 (by decide) (ls' := [some (.ref this), some (.long (0 : Int64)), none, some (.long (x3).toInt64), none, some (.long (0 : Int64)), none, none, none]) rfl ?_
  refine w_iconst dX21_areSizes_14 (v := 0) (by decide) ?_
  refine w_istore dX21_areSizes_15 (by decide) (ls' := [some (.ref this), some (.long (0 : Int64)), none, some (.long (x3).toInt64), none, some (.long (0 : Int64)), none, some (.int (0 : Int32)), none]) rfl ?_
  exact (pX21_areSizes_b17 hd N _ _ _ _ _ _ _ hf).to ⟨rfl, rfl, rfl, rfl, rfl, trivial⟩
abbrev cX22_isDropped : ByteArray := prog_23_method_4_code
def yX22_isDropped : MethodName := ⟨RX22, "isDropped", "(I)Z"⟩
def YX22_isDropped : eY := (yX22_isDropped, cX22_isDropped, 2, (Option.some FieldType.boolean), [])
theorem mX22_isDropped : e_mv YX22_isDropped RX22 1 := ⟨q3721, q3722, q3723, by decide, by decide +kernel, (e_sig (by decide +kernel))⟩
theorem dX22_isDropped_0 : decode cX22_isDropped 0 = .ok (.aload_n 0, 1) := dc_42 (by decide +kernel)
theorem dX22_isDropped_1 : decode cX22_isDropped 1 = .ok (.getfield 9, 3) := dc_180 (a := 0) (b := 9) (n := 9) (by decide +kernel)
theorem dX22_isDropped_4 : decode cX22_isDropped 4 = .ok (.iload_n 1, 1) := dc_27 (by decide +kernel)
theorem dX22_isDropped_5 : decode cX22_isDropped 5 = .ok (.baload, 1) := dc_51 (by decide +kernel)
theorem dX22_isDropped_6 : decode cX22_isDropped 6 = .ok (.iconst 1, 1) := dc_4 (by decide +kernel)
theorem dX22_isDropped_7 : decode cX22_isDropped 7 = .ok (.if_icmp .eq 23, 3) := dc_159 (a := 0) (b := 23) (v := 23) (by decide +kernel)
theorem dX22_isDropped_10 : decode cX22_isDropped 10 = .ok (.aload_n 0, 1) := dc_42 (by decide +kernel)
theorem dX22_isDropped_11 : decode cX22_isDropped 11 = .ok (.getfield 9, 3) := dc_180 (a := 0) (b := 9) (n := 9) (by decide +kernel)
theorem dX22_isDropped_14 : decode cX22_isDropped 14 = .ok (.iload_n 1, 1) := dc_27 (by decide +kernel)
theorem dX22_isDropped_15 : decode cX22_isDropped 15 = .ok (.baload, 1) := dc_51 (by decide +kernel)
theorem dX22_isDropped_16 : decode cX22_isDropped 16 = .ok (.iconst 3, 1) := dc_6 (by decide +kernel)
theorem dX22_isDropped_17 : decode cX22_isDropped 17 = .ok (.if_icmp .eq 13, 3) := dc_159 (a := 0) (b := 13) (v := 13) (by decide +kernel)
theorem dX22_isDropped_20 : decode cX22_isDropped 20 = .ok (.aload_n 0, 1) := dc_42 (by decide +kernel)
theorem dX22_isDropped_21 : decode cX22_isDropped 21 = .ok (.getfield 9, 3) := dc_180 (a := 0) (b := 9) (n := 9) (by decide +kernel)
theorem dX22_isDropped_24 : decode cX22_isDropped 24 = .ok (.iload_n 1, 1) := dc_27 (by decide +kernel)
theorem dX22_isDropped_25 : decode cX22_isDropped 25 = .ok (.baload, 1) := dc_51 (by decide +kernel)
theorem dX22_isDropped_26 : decode cX22_isDropped 26 = .ok (.iconst 4, 1) := dc_7 (by decide +kernel)
theorem dX22_isDropped_27 : decode cX22_isDropped 27 = .ok (.if_icmp .ne 7, 3) := dc_160 (a := 0) (b := 7) (v := 7) (by decide +kernel)
theorem dX22_isDropped_30 : decode cX22_isDropped 30 = .ok (.iconst 1, 1) := dc_4 (by decide +kernel)
theorem dX22_isDropped_31 : decode cX22_isDropped 31 = .ok (.goto 4, 3) := dc_167 (a := 0) (b := 4) (v := 4) (by decide +kernel)
theorem dX22_isDropped_34 : decode cX22_isDropped 34 = .ok (.iconst 0, 1) := dc_3 (by decide +kernel)
theorem dX22_isDropped_35 : decode cX22_isDropped 35 = .ok (.ireturn, 1) := dc_172 (by decide +kernel)
def fX22_isDropped_b35 (s0 : Int32) (h : eH) : Option (Int32 × eH) :=
  z_r s0 (s0, h)
theorem pX22_isDropped_b35 {w : eW} {d : Nat} (hd : 0 ≤ d) {s0 : Int32} {h : eH} {q} (hf : fX22_isDropped_b35 s0 h = some q) : wp w d YX22_isDropped 35 [none, none] [.int s0] h (e_is (e_rn c_I q)) := by
  unfold fX22_isDropped_b35 at hf
  obtain ⟨b1, rfl⟩ := z_r_some hf
  exact w_iret dX22_isDropped_35 rfl b1 rfl
def fX22_isDropped_b30  (h : eH) : Option (Int32 × eH) :=
  fX22_isDropped_b35 (1 : Int32) h
theorem pX22_isDropped_b30 {w : eW} {d : Nat} (hd : 0 ≤ d)  {h : eH} {q} (hf : fX22_isDropped_b30  h = some q) : wp w d YX22_isDropped 30 [none, none] [] h (e_is (e_rn c_I q)) := by
  unfold fX22_isDropped_b30 at hf
  refine w_iconst dX22_isDropped_30 (v := 1) (by decide) ?_
  refine w_goto 35 dX22_isDropped_31 (by decide) ?_
  exact (pX22_isDropped_b35 hd hf).to trivial
def fX22_isDropped (this : Nat) (p0 : Int32) (h : eH) : Option (Int32 × eH) :=
  (g_A 21 h this 0).bind fun a1 =>
  (r_I 102 h a1 p0).bind fun x3 =>
  if x3 = (1 : Int32) then
    fX22_isDropped_b30 h
  else
    (g_A 21 h this 0).bind fun a6 =>
    (r_I 102 h a6 p0).bind fun x8 =>
    if x8 = (3 : Int32) then
      fX22_isDropped_b30 h
    else
      (g_A 21 h this 0).bind fun a11 =>
      (r_I 102 h a11 p0).bind fun x13 =>
      if ¬ x13 = (4 : Int32) then
        fX22_isDropped_b35 (0 : Int32) h
      else
        fX22_isDropped_b30 h
theorem pX22_isDropped {w : eW} {d : Nat} (hd : 0 ≤ d) {this : Nat} {p0 : Int32} {h : eH} {q} (hf : fX22_isDropped this p0 h = some q) : wm w d YX22_isDropped [.ref this, .int p0] h (e_is (e_rn c_I q)) := by
  show wp w d YX22_isDropped 0 [some (.ref this), some (.int p0)] [] h _
  unfold fX22_isDropped at hf
  refine w_aload_n dX22_isDropped_0 rfl rfl ?_
  obtain ⟨a1, b2, hf⟩ := Option.bind_eq_some_iff.mp hf
  refine GX22_9 b2 dX22_isDropped_1 rfl ?_
  refine w_iload_n dX22_isDropped_4 rfl rfl ?_
  obtain ⟨x3, b4, hf⟩ := Option.bind_eq_some_iff.mp hf
  refine x_rB b4 dX22_isDropped_5 ?_
  refine w_iconst dX22_isDropped_6 (v := 1) (by decide) ?_
  refine w_icmp_eq 30 dX22_isDropped_7 (by decide) (fun c5 => ?_) (fun c5 => ?_)
  · replace hf := (if_pos (show x3 = (1 : Int32) from c5)).symm.trans hf
    exact (pX22_isDropped_b30 hd hf).to trivial
  · replace hf := (if_neg (show ¬ (x3 = (1 : Int32)) from c5)).symm.trans hf
    refine w_aload_n dX22_isDropped_10 rfl rfl ?_
    obtain ⟨a6, b7, hf⟩ := Option.bind_eq_some_iff.mp hf
    refine GX22_9 b7 dX22_isDropped_11 rfl ?_
    refine w_iload_n dX22_isDropped_14 rfl rfl ?_
    obtain ⟨x8, b9, hf⟩ := Option.bind_eq_some_iff.mp hf
    refine x_rB b9 dX22_isDropped_15 ?_
    refine w_iconst dX22_isDropped_16 (v := 3) (by decide) ?_
    refine w_icmp_eq 30 dX22_isDropped_17 (by decide) (fun c10 => ?_) (fun c10 => ?_)
    · replace hf := (if_pos (show x8 = (3 : Int32) from c10)).symm.trans hf
      exact (pX22_isDropped_b30 hd hf).to trivial
    · replace hf := (if_neg (show ¬ (x8 = (3 : Int32)) from c10)).symm.trans hf
      refine w_aload_n dX22_isDropped_20 rfl rfl ?_
      obtain ⟨a11, b12, hf⟩ := Option.bind_eq_some_iff.mp hf
      refine GX22_9 b12 dX22_isDropped_21 rfl ?_
      refine w_iload_n dX22_isDropped_24 rfl rfl ?_
      obtain ⟨x13, b14, hf⟩ := Option.bind_eq_some_iff.mp hf
      refine x_rB b14 dX22_isDropped_25 ?_
      refine w_iconst dX22_isDropped_26 (v := 4) (by decide) ?_
      refine w_icmp_ne 34 dX22_isDropped_27 (by decide) (fun c15 => ?_) (fun c15 => ?_)
      · replace hf := (if_pos (show ¬ x13 = (4 : Int32) from c15)).symm.trans hf
        refine w_iconst dX22_isDropped_34 (v := 0) (by decide) ?_
        exact (pX22_isDropped_b35 hd hf).to trivial
      · replace hf := (if_neg (show ¬ (¬ x13 = (4 : Int32)) from (fun z => z c15))).symm.trans hf
        exact (pX22_isDropped_b30 hd hf).to trivial
abbrev cX23_take : ByteArray := prog_15_method_2_code
def yX23_take : MethodName := ⟨RX23, "take", "(LTypeHouse$Paragraph;)V"⟩
def YX23_take : eY := (yX23_take, cX23_take, 7, none, [])
theorem mX23_take : e_mv YX23_take RX23 1 := ⟨q3715, q3716, q3717, by decide, by decide +kernel, (e_sig (by decide +kernel))⟩
theorem dX23_take_0 : decode cX23_take 0 = .ok (.iconst 0, 1) := dc_3 (by decide +kernel)
theorem dX23_take_1 : decode cX23_take 1 = .ok (.istore_n 2, 1) := dc_61 (by decide +kernel)
theorem dX23_take_2 : decode cX23_take 2 = .ok (.iconst 0, 1) := dc_3 (by decide +kernel)
theorem dX23_take_3 : decode cX23_take 3 = .ok (.istore_n 3, 1) := dc_62 (by decide +kernel)
theorem dX23_take_4 : decode cX23_take 4 = .ok (.iload_n 3, 1) := dc_29 (by decide +kernel)
theorem dX23_take_5 : decode cX23_take 5 = .ok (.aload_n 1, 1) := dc_43 (by decide +kernel)
theorem dX23_take_6 : decode cX23_take 6 = .ok (.getfield 32, 3) := dc_180 (a := 0) (b := 32) (n := 32) (by decide +kernel)
theorem dX23_take_9 : decode cX23_take 9 = .ok (.if_icmp .ge 214, 3) := dc_162 (a := 0) (b := 214) (v := 214) (by decide +kernel)
theorem dX23_take_12 : decode cX23_take 12 = .ok (.aload_n 1, 1) := dc_43 (by decide +kernel)
theorem dX23_take_13 : decode cX23_take 13 = .ok (.getfield 38, 3) := dc_180 (a := 0) (b := 38) (n := 38) (by decide +kernel)
theorem dX23_take_16 : decode cX23_take 16 = .ok (.iload_n 3, 1) := dc_29 (by decide +kernel)
theorem dX23_take_17 : decode cX23_take 17 = .ok (.baload, 1) := dc_51 (by decide +kernel)
theorem dX23_take_18 : decode cX23_take 18 = .ok (.iconst 4, 1) := dc_7 (by decide +kernel)
theorem dX23_take_19 : decode cX23_take 19 = .ok (.if_icmp .ge 7, 3) := dc_162 (a := 0) (b := 7) (v := 7) (by decide +kernel)
theorem dX23_take_22 : decode cX23_take 22 = .ok (.iconst 1, 1) := dc_4 (by decide +kernel)
theorem dX23_take_23 : decode cX23_take 23 = .ok (.goto 4, 3) := dc_167 (a := 0) (b := 4) (v := 4) (by decide +kernel)
theorem dX23_take_26 : decode cX23_take 26 = .ok (.iconst 0, 1) := dc_3 (by decide +kernel)
theorem dX23_take_27 : decode cX23_take 27 = .ok (.istore 4, 2) := dc_54 (a := 4) (by decide +kernel)
theorem dX23_take_29 : decode cX23_take 29 = .ok (.aload_n 1, 1) := dc_43 (by decide +kernel)
theorem dX23_take_30 : decode cX23_take 30 = .ok (.getfield 38, 3) := dc_180 (a := 0) (b := 38) (n := 38) (by decide +kernel)
theorem dX23_take_33 : decode cX23_take 33 = .ok (.iload_n 3, 1) := dc_29 (by decide +kernel)
theorem dX23_take_34 : decode cX23_take 34 = .ok (.baload, 1) := dc_51 (by decide +kernel)
theorem dX23_take_35 : decode cX23_take 35 = .ok (.iconst 1, 1) := dc_4 (by decide +kernel)
theorem dX23_take_36 : decode cX23_take 36 = .ok (.if_icmp .ne 7, 3) := dc_160 (a := 0) (b := 7) (v := 7) (by decide +kernel)
theorem dX23_take_39 : decode cX23_take 39 = .ok (.iconst 1, 1) := dc_4 (by decide +kernel)
theorem dX23_take_40 : decode cX23_take 40 = .ok (.goto 4, 3) := dc_167 (a := 0) (b := 4) (v := 4) (by decide +kernel)
theorem dX23_take_43 : decode cX23_take 43 = .ok (.iconst 0, 1) := dc_3 (by decide +kernel)
theorem dX23_take_44 : decode cX23_take 44 = .ok (.istore 5, 2) := dc_54 (a := 5) (by decide +kernel)
theorem dX23_take_46 : decode cX23_take 46 = .ok (.aload_n 0, 1) := dc_42 (by decide +kernel)
theorem dX23_take_47 : decode cX23_take 47 = .ok (.getfield 9, 3) := dc_180 (a := 0) (b := 9) (n := 9) (by decide +kernel)
theorem dX23_take_50 : decode cX23_take 50 = .ok (.iload_n 3, 1) := dc_29 (by decide +kernel)
theorem dX23_take_51 : decode cX23_take 51 = .ok (.iconst 1, 1) := dc_4 (by decide +kernel)
theorem dX23_take_52 : decode cX23_take 52 = .ok (.iadd, 1) := dc_96 (by decide +kernel)
theorem dX23_take_53 : decode cX23_take 53 = .ok (.aload_n 0, 1) := dc_42 (by decide +kernel)
theorem dX23_take_54 : decode cX23_take 54 = .ok (.getfield 9, 3) := dc_180 (a := 0) (b := 9) (n := 9) (by decide +kernel)
theorem dX23_take_57 : decode cX23_take 57 = .ok (.iload_n 3, 1) := dc_29 (by decide +kernel)
theorem dX23_take_58 : decode cX23_take 58 = .ok (.laload, 1) := dc_47 (by decide +kernel)
theorem dX23_take_59 : decode cX23_take 59 = .ok (.iload 4, 2) := dc_21 (a := 4) (by decide +kernel)
theorem dX23_take_61 : decode cX23_take 61 = .ok (.ifCond .eq 12, 3) := dc_153 (a := 0) (b := 12) (v := 12) (by decide +kernel)
theorem dX23_take_64 : decode cX23_take 64 = .ok (.aload_n 1, 1) := dc_43 (by decide +kernel)
theorem dX23_take_65 : decode cX23_take 65 = .ok (.getfield 42, 3) := dc_180 (a := 0) (b := 42) (n := 42) (by decide +kernel)
theorem dX23_take_68 : decode cX23_take 68 = .ok (.iload_n 3, 1) := dc_29 (by decide +kernel)
theorem dX23_take_69 : decode cX23_take 69 = .ok (.iaload, 1) := dc_46 (by decide +kernel)
theorem dX23_take_70 : decode cX23_take 70 = .ok (.goto 4, 3) := dc_167 (a := 0) (b := 4) (v := 4) (by decide +kernel)
theorem dX23_take_73 : decode cX23_take 73 = .ok (.iconst 0, 1) := dc_3 (by decide +kernel)
theorem dX23_take_74 : decode cX23_take 74 = .ok (.i2l, 1) := dc_133 (by decide +kernel)
theorem dX23_take_75 : decode cX23_take 75 = .ok (.ladd, 1) := dc_97 (by decide +kernel)
theorem dX23_take_76 : decode cX23_take 76 = .ok (.lastore, 1) := dc_80 (by decide +kernel)
theorem dX23_take_77 : decode cX23_take 77 = .ok (.aload_n 0, 1) := dc_42 (by decide +kernel)
theorem dX23_take_78 : decode cX23_take 78 = .ok (.getfield 15, 3) := dc_180 (a := 0) (b := 15) (n := 15) (by decide +kernel)
theorem dX23_take_81 : decode cX23_take 81 = .ok (.iload_n 3, 1) := dc_29 (by decide +kernel)
theorem dX23_take_82 : decode cX23_take 82 = .ok (.iconst 1, 1) := dc_4 (by decide +kernel)
theorem dX23_take_83 : decode cX23_take 83 = .ok (.iadd, 1) := dc_96 (by decide +kernel)
theorem dX23_take_84 : decode cX23_take 84 = .ok (.aload_n 0, 1) := dc_42 (by decide +kernel)
theorem dX23_take_85 : decode cX23_take 85 = .ok (.getfield 15, 3) := dc_180 (a := 0) (b := 15) (n := 15) (by decide +kernel)
theorem dX23_take_88 : decode cX23_take 88 = .ok (.iload_n 3, 1) := dc_29 (by decide +kernel)
theorem dX23_take_89 : decode cX23_take 89 = .ok (.laload, 1) := dc_47 (by decide +kernel)
theorem dX23_take_90 : decode cX23_take 90 = .ok (.iload 5, 2) := dc_21 (a := 5) (by decide +kernel)
theorem dX23_take_92 : decode cX23_take 92 = .ok (.ifCond .eq 12, 3) := dc_153 (a := 0) (b := 12) (v := 12) (by decide +kernel)
theorem dX23_take_95 : decode cX23_take 95 = .ok (.aload_n 1, 1) := dc_43 (by decide +kernel)
theorem dX23_take_96 : decode cX23_take 96 = .ok (.getfield 45, 3) := dc_180 (a := 0) (b := 45) (n := 45) (by decide +kernel)
theorem dX23_take_99 : decode cX23_take 99 = .ok (.iload_n 3, 1) := dc_29 (by decide +kernel)
theorem dX23_take_100 : decode cX23_take 100 = .ok (.iaload, 1) := dc_46 (by decide +kernel)
theorem dX23_take_101 : decode cX23_take 101 = .ok (.goto 4, 3) := dc_167 (a := 0) (b := 4) (v := 4) (by decide +kernel)
theorem dX23_take_104 : decode cX23_take 104 = .ok (.iconst 0, 1) := dc_3 (by decide +kernel)
theorem dX23_take_105 : decode cX23_take 105 = .ok (.i2l, 1) := dc_133 (by decide +kernel)
theorem dX23_take_106 : decode cX23_take 106 = .ok (.ladd, 1) := dc_97 (by decide +kernel)
theorem dX23_take_107 : decode cX23_take 107 = .ok (.lastore, 1) := dc_80 (by decide +kernel)
theorem dX23_take_108 : decode cX23_take 108 = .ok (.iconst 0, 1) := dc_3 (by decide +kernel)
theorem dX23_take_109 : decode cX23_take 109 = .ok (.istore 6, 2) := dc_54 (a := 6) (by decide +kernel)
theorem dX23_take_111 : decode cX23_take 111 = .ok (.iload 6, 2) := dc_21 (a := 6) (by decide +kernel)
theorem dX23_take_113 : decode cX23_take 113 = .ok (.iconst 4, 1) := dc_7 (by decide +kernel)
theorem dX23_take_114 : decode cX23_take 114 = .ok (.if_icmp .ge 61, 3) := dc_162 (a := 0) (b := 61) (v := 61) (by decide +kernel)
theorem dX23_take_117 : decode cX23_take 117 = .ok (.aload_n 0, 1) := dc_42 (by decide +kernel)
theorem dX23_take_118 : decode cX23_take 118 = .ok (.getfield 18, 3) := dc_180 (a := 0) (b := 18) (n := 18) (by decide +kernel)
theorem dX23_take_121 : decode cX23_take 121 = .ok (.iconst 4, 1) := dc_7 (by decide +kernel)
theorem dX23_take_122 : decode cX23_take 122 = .ok (.iload_n 3, 1) := dc_29 (by decide +kernel)
theorem dX23_take_123 : decode cX23_take 123 = .ok (.iconst 1, 1) := dc_4 (by decide +kernel)
theorem dX23_take_124 : decode cX23_take 124 = .ok (.iadd, 1) := dc_96 (by decide +kernel)
theorem dX23_take_125 : decode cX23_take 125 = .ok (.imul, 1) := dc_104 (by decide +kernel)
theorem dX23_take_126 : decode cX23_take 126 = .ok (.iload 6, 2) := dc_21 (a := 6) (by decide +kernel)
theorem dX23_take_128 : decode cX23_take 128 = .ok (.iadd, 1) := dc_96 (by decide +kernel)
theorem dX23_take_129 : decode cX23_take 129 = .ok (.aload_n 0, 1) := dc_42 (by decide +kernel)
theorem dX23_take_130 : decode cX23_take 130 = .ok (.getfield 18, 3) := dc_180 (a := 0) (b := 18) (n := 18) (by decide +kernel)
theorem dX23_take_133 : decode cX23_take 133 = .ok (.iconst 4, 1) := dc_7 (by decide +kernel)
theorem dX23_take_134 : decode cX23_take 134 = .ok (.iload_n 3, 1) := dc_29 (by decide +kernel)
theorem dX23_take_135 : decode cX23_take 135 = .ok (.imul, 1) := dc_104 (by decide +kernel)
theorem dX23_take_136 : decode cX23_take 136 = .ok (.iload 6, 2) := dc_21 (a := 6) (by decide +kernel)
theorem dX23_take_138 : decode cX23_take 138 = .ok (.iadd, 1) := dc_96 (by decide +kernel)
theorem dX23_take_139 : decode cX23_take 139 = .ok (.laload, 1) := dc_47 (by decide +kernel)
theorem dX23_take_140 : decode cX23_take 140 = .ok (.iload 5, 2) := dc_21 (a := 5) (by decide +kernel)
theorem dX23_take_142 : decode cX23_take 142 = .ok (.ifCond .eq 23, 3) := dc_153 (a := 0) (b := 23) (v := 23) (by decide +kernel)
theorem dX23_take_145 : decode cX23_take 145 = .ok (.aload_n 1, 1) := dc_43 (by decide +kernel)
theorem dX23_take_146 : decode cX23_take 146 = .ok (.getfield 48, 3) := dc_180 (a := 0) (b := 48) (n := 48) (by decide +kernel)
theorem dX23_take_149 : decode cX23_take 149 = .ok (.iload_n 3, 1) := dc_29 (by decide +kernel)
theorem dX23_take_150 : decode cX23_take 150 = .ok (.iaload, 1) := dc_46 (by decide +kernel)
theorem dX23_take_151 : decode cX23_take 151 = .ok (.iload 6, 2) := dc_21 (a := 6) (by decide +kernel)
theorem dX23_take_153 : decode cX23_take 153 = .ok (.if_icmp .ne 12, 3) := dc_160 (a := 0) (b := 12) (v := 12) (by decide +kernel)
theorem dX23_take_156 : decode cX23_take 156 = .ok (.aload_n 1, 1) := dc_43 (by decide +kernel)
theorem dX23_take_157 : decode cX23_take 157 = .ok (.getfield 51, 3) := dc_180 (a := 0) (b := 51) (n := 51) (by decide +kernel)
theorem dX23_take_160 : decode cX23_take 160 = .ok (.iload_n 3, 1) := dc_29 (by decide +kernel)
theorem dX23_take_161 : decode cX23_take 161 = .ok (.iaload, 1) := dc_46 (by decide +kernel)
theorem dX23_take_162 : decode cX23_take 162 = .ok (.goto 4, 3) := dc_167 (a := 0) (b := 4) (v := 4) (by decide +kernel)
theorem dX23_take_165 : decode cX23_take 165 = .ok (.iconst 0, 1) := dc_3 (by decide +kernel)
theorem dX23_take_166 : decode cX23_take 166 = .ok (.i2l, 1) := dc_133 (by decide +kernel)
theorem dX23_take_167 : decode cX23_take 167 = .ok (.ladd, 1) := dc_97 (by decide +kernel)
theorem dX23_take_168 : decode cX23_take 168 = .ok (.lastore, 1) := dc_80 (by decide +kernel)
theorem dX23_take_169 : decode cX23_take 169 = .ok (.iinc 6 1, 3) := dc_132 (a := 6) (b := 1) (v := 1) (by decide +kernel)
theorem dX23_take_172 : decode cX23_take 172 = .ok (.goto (-61), 3) := dc_167 (a := 255) (b := 195) (v := -61) (by decide +kernel)
theorem dX23_take_175 : decode cX23_take 175 = .ok (.aload_n 0, 1) := dc_42 (by decide +kernel)
theorem dX23_take_176 : decode cX23_take 176 = .ok (.getfield 21, 3) := dc_180 (a := 0) (b := 21) (n := 21) (by decide +kernel)
theorem dX23_take_179 : decode cX23_take 179 = .ok (.iload_n 3, 1) := dc_29 (by decide +kernel)
theorem dX23_take_180 : decode cX23_take 180 = .ok (.iload_n 2, 1) := dc_28 (by decide +kernel)
theorem dX23_take_181 : decode cX23_take 181 = .ok (.ifCond .le 7, 3) := dc_158 (a := 0) (b := 7) (v := 7) (by decide +kernel)
theorem dX23_take_184 : decode cX23_take 184 = .ok (.iconst 1, 1) := dc_4 (by decide +kernel)
theorem dX23_take_185 : decode cX23_take 185 = .ok (.goto 4, 3) := dc_167 (a := 0) (b := 4) (v := 4) (by decide +kernel)
theorem dX23_take_188 : decode cX23_take 188 = .ok (.iconst 0, 1) := dc_3 (by decide +kernel)
theorem dX23_take_189 : decode cX23_take 189 = .ok (.bastore, 1) := dc_84 (by decide +kernel)
theorem dX23_take_190 : decode cX23_take 190 = .ok (.aload_n 1, 1) := dc_43 (by decide +kernel)
theorem dX23_take_191 : decode cX23_take 191 = .ok (.getfield 38, 3) := dc_180 (a := 0) (b := 38) (n := 38) (by decide +kernel)
theorem dX23_take_194 : decode cX23_take 194 = .ok (.iload_n 3, 1) := dc_29 (by decide +kernel)
theorem dX23_take_195 : decode cX23_take 195 = .ok (.baload, 1) := dc_51 (by decide +kernel)
theorem dX23_take_196 : decode cX23_take 196 = .ok (.iconst 5, 1) := dc_8 (by decide +kernel)
theorem dX23_take_197 : decode cX23_take 197 = .ok (.if_icmp .ne 12, 3) := dc_160 (a := 0) (b := 12) (v := 12) (by decide +kernel)
theorem dX23_take_200 : decode cX23_take 200 = .ok (.aload_n 1, 1) := dc_43 (by decide +kernel)
theorem dX23_take_201 : decode cX23_take 201 = .ok (.getfield 48, 3) := dc_180 (a := 0) (b := 48) (n := 48) (by decide +kernel)
theorem dX23_take_204 : decode cX23_take 204 = .ok (.iload_n 3, 1) := dc_29 (by decide +kernel)
theorem dX23_take_205 : decode cX23_take 205 = .ok (.iaload, 1) := dc_46 (by decide +kernel)
theorem dX23_take_206 : decode cX23_take 206 = .ok (.goto 10, 3) := dc_167 (a := 0) (b := 10) (v := 10) (by decide +kernel)
theorem dX23_take_209 : decode cX23_take 209 = .ok (.iconst 0, 1) := dc_3 (by decide +kernel)
theorem dX23_take_210 : decode cX23_take 210 = .ok (.iload_n 2, 1) := dc_28 (by decide +kernel)
theorem dX23_take_211 : decode cX23_take 211 = .ok (.iconst 1, 1) := dc_4 (by decide +kernel)
theorem dX23_take_212 : decode cX23_take 212 = .ok (.isub, 1) := dc_100 (by decide +kernel)
theorem dX23_take_213 : decode cX23_take 213 = .ok (.invokestatic 54, 3) := dc_184 (a := 0) (b := 54) (n := 54) (by decide +kernel)
theorem dX23_take_216 : decode cX23_take 216 = .ok (.istore_n 2, 1) := dc_61 (by decide +kernel)
theorem dX23_take_217 : decode cX23_take 217 = .ok (.iinc 3 1, 3) := dc_132 (a := 3) (b := 1) (v := 1) (by decide +kernel)
theorem dX23_take_220 : decode cX23_take 220 = .ok (.goto (-216), 3) := dc_167 (a := 255) (b := 40) (v := -216) (by decide +kernel)
theorem dX23_take_223 : decode cX23_take 223 = .ok (.iconst 0, 1) := dc_3 (by decide +kernel)
theorem dX23_take_224 : decode cX23_take 224 = .ok (.istore_n 3, 1) := dc_62 (by decide +kernel)
theorem dX23_take_225 : decode cX23_take 225 = .ok (.iload_n 3, 1) := dc_29 (by decide +kernel)
theorem dX23_take_226 : decode cX23_take 226 = .ok (.aload_n 1, 1) := dc_43 (by decide +kernel)
theorem dX23_take_227 : decode cX23_take 227 = .ok (.getfield 32, 3) := dc_180 (a := 0) (b := 32) (n := 32) (by decide +kernel)
theorem dX23_take_230 : decode cX23_take 230 = .ok (.if_icmp .ge 95, 3) := dc_162 (a := 0) (b := 95) (v := 95) (by decide +kernel)
theorem dX23_take_233 : decode cX23_take 233 = .ok (.aload_n 1, 1) := dc_43 (by decide +kernel)
theorem dX23_take_234 : decode cX23_take 234 = .ok (.getfield 38, 3) := dc_180 (a := 0) (b := 38) (n := 38) (by decide +kernel)
theorem dX23_take_237 : decode cX23_take 237 = .ok (.iload_n 3, 1) := dc_29 (by decide +kernel)
theorem dX23_take_238 : decode cX23_take 238 = .ok (.baload, 1) := dc_51 (by decide +kernel)
theorem dX23_take_239 : decode cX23_take 239 = .ok (.iconst 5, 1) := dc_8 (by decide +kernel)
theorem dX23_take_240 : decode cX23_take 240 = .ok (.if_icmp .ne 7, 3) := dc_160 (a := 0) (b := 7) (v := 7) (by decide +kernel)
theorem dX23_take_243 : decode cX23_take 243 = .ok (.iconst 1, 1) := dc_4 (by decide +kernel)
theorem dX23_take_244 : decode cX23_take 244 = .ok (.goto 4, 3) := dc_167 (a := 0) (b := 4) (v := 4) (by decide +kernel)
theorem dX23_take_247 : decode cX23_take 247 = .ok (.iconst 0, 1) := dc_3 (by decide +kernel)
theorem dX23_take_248 : decode cX23_take 248 = .ok (.istore 4, 2) := dc_54 (a := 4) (by decide +kernel)
theorem dX23_take_250 : decode cX23_take 250 = .ok (.iload 4, 2) := dc_21 (a := 4) (by decide +kernel)
theorem dX23_take_252 : decode cX23_take 252 = .ok (.ifCond .eq 16, 3) := dc_153 (a := 0) (b := 16) (v := 16) (by decide +kernel)
theorem dX23_take_255 : decode cX23_take 255 = .ok (.iload_n 3, 1) := dc_29 (by decide +kernel)
theorem dX23_take_256 : decode cX23_take 256 = .ok (.iconst 1, 1) := dc_4 (by decide +kernel)
theorem dX23_take_257 : decode cX23_take 257 = .ok (.iadd, 1) := dc_96 (by decide +kernel)
theorem dX23_take_258 : decode cX23_take 258 = .ok (.aload_n 1, 1) := dc_43 (by decide +kernel)
theorem dX23_take_259 : decode cX23_take 259 = .ok (.getfield 48, 3) := dc_180 (a := 0) (b := 48) (n := 48) (by decide +kernel)
theorem dX23_take_262 : decode cX23_take 262 = .ok (.iload_n 3, 1) := dc_29 (by decide +kernel)
theorem dX23_take_263 : decode cX23_take 263 = .ok (.iaload, 1) := dc_46 (by decide +kernel)
theorem dX23_take_264 : decode cX23_take 264 = .ok (.iadd, 1) := dc_96 (by decide +kernel)
theorem dX23_take_265 : decode cX23_take 265 = .ok (.goto 4, 3) := dc_167 (a := 0) (b := 4) (v := 4) (by decide +kernel)
theorem dX23_take_268 : decode cX23_take 268 = .ok (.iload_n 3, 1) := dc_29 (by decide +kernel)
theorem dX23_take_269 : decode cX23_take 269 = .ok (.istore 5, 2) := dc_54 (a := 5) (by decide +kernel)
theorem dX23_take_271 : decode cX23_take 271 = .ok (.iload 4, 2) := dc_21 (a := 4) (by decide +kernel)
theorem dX23_take_273 : decode cX23_take 273 = .ok (.ifCond .eq 14, 3) := dc_153 (a := 0) (b := 14) (v := 14) (by decide +kernel)
theorem dX23_take_276 : decode cX23_take 276 = .ok (.aload_n 1, 1) := dc_43 (by decide +kernel)
theorem dX23_take_277 : decode cX23_take 277 = .ok (.getfield 51, 3) := dc_180 (a := 0) (b := 51) (n := 51) (by decide +kernel)
theorem dX23_take_280 : decode cX23_take 280 = .ok (.iload_n 3, 1) := dc_29 (by decide +kernel)
theorem dX23_take_281 : decode cX23_take 281 = .ok (.iaload, 1) := dc_46 (by decide +kernel)
theorem dX23_take_282 : decode cX23_take 282 = .ok (.ldc 60, 2) := dc_18 (a := 60) (by decide +kernel)
theorem dX23_take_284 : decode cX23_take 284 = .ok (.if_icmp .ne 27, 3) := dc_160 (a := 0) (b := 27) (v := 27) (by decide +kernel)
theorem dX23_take_287 : decode cX23_take 287 = .ok (.iload 5, 2) := dc_21 (a := 5) (by decide +kernel)
theorem dX23_take_289 : decode cX23_take 289 = .ok (.aload_n 1, 1) := dc_43 (by decide +kernel)
theorem dX23_take_290 : decode cX23_take 290 = .ok (.getfield 32, 3) := dc_180 (a := 0) (b := 32) (n := 32) (by decide +kernel)
theorem dX23_take_293 : decode cX23_take 293 = .ok (.if_icmp .ge 18, 3) := dc_162 (a := 0) (b := 18) (v := 18) (by decide +kernel)
theorem dX23_take_296 : decode cX23_take 296 = .ok (.aload_n 1, 1) := dc_43 (by decide +kernel)
theorem dX23_take_297 : decode cX23_take 297 = .ok (.iload 5, 2) := dc_21 (a := 5) (by decide +kernel)
theorem dX23_take_299 : decode cX23_take 299 = .ok (.invokevirtual 61, 3) := dc_182 (a := 0) (b := 61) (n := 61) (by decide +kernel)
theorem dX23_take_302 : decode cX23_take 302 = .ok (.ifCond .eq 9, 3) := dc_153 (a := 0) (b := 9) (v := 9) (by decide +kernel)
theorem dX23_take_305 : decode cX23_take 305 = .ok (.iinc 5 1, 3) := dc_132 (a := 5) (b := 1) (v := 1) (by decide +kernel)
theorem dX23_take_308 : decode cX23_take 308 = .ok (.goto (-21), 3) := dc_167 (a := 255) (b := 235) (v := -21) (by decide +kernel)
theorem dX23_take_311 : decode cX23_take 311 = .ok (.aload_n 0, 1) := dc_42 (by decide +kernel)
theorem dX23_take_312 : decode cX23_take 312 = .ok (.getfield 25, 3) := dc_180 (a := 0) (b := 25) (n := 25) (by decide +kernel)
theorem dX23_take_315 : decode cX23_take 315 = .ok (.iload_n 3, 1) := dc_29 (by decide +kernel)
theorem dX23_take_316 : decode cX23_take 316 = .ok (.iload 5, 2) := dc_21 (a := 5) (by decide +kernel)
theorem dX23_take_318 : decode cX23_take 318 = .ok (.iastore, 1) := dc_79 (by decide +kernel)
theorem dX23_take_319 : decode cX23_take 319 = .ok (.iinc 3 1, 3) := dc_132 (a := 3) (b := 1) (v := 1) (by decide +kernel)
theorem dX23_take_322 : decode cX23_take 322 = .ok (.goto (-97), 3) := dc_167 (a := 255) (b := 159) (v := -97) (by decide +kernel)
theorem dX23_take_325 : decode cX23_take 325 = .ok (.return_, 1) := dc_177 (by decide +kernel)
theorem GX23_15 {w : eW} {d : Nat} {Y : eY} {pc : Nat} {ls : eL} {st : List Value} {h : eH} {Q : eO → eH → Prop} {a : Nat} {x : Nat} (hf : g_A 22 h a 1 = some x) (hd : decode Y.2.1 pc = .ok (.getfield 15, 3)) (hY : Y.1.cls = RX23) (kk : wp w d Y (pc + 3) ls (.ref x :: st) h Q) : wp w d Y pc ls (.ref a :: st) h Q := x_gA (ci := 22) (k := 1) hf hd rfl (by decide) (by rw [hY]; exact q1284) kk
theorem GX23_18 {w : eW} {d : Nat} {Y : eY} {pc : Nat} {ls : eL} {st : List Value} {h : eH} {Q : eO → eH → Prop} {a : Nat} {x : Nat} (hf : g_A 22 h a 2 = some x) (hd : decode Y.2.1 pc = .ok (.getfield 18, 3)) (hY : Y.1.cls = RX23) (kk : wp w d Y (pc + 3) ls (.ref x :: st) h Q) : wp w d Y pc ls (.ref a :: st) h Q := x_gA (ci := 22) (k := 2) hf hd rfl (by decide) (by rw [hY]; exact q1285) kk
theorem GX23_21 {w : eW} {d : Nat} {Y : eY} {pc : Nat} {ls : eL} {st : List Value} {h : eH} {Q : eO → eH → Prop} {a : Nat} {x : Nat} (hf : g_A 22 h a 3 = some x) (hd : decode Y.2.1 pc = .ok (.getfield 21, 3)) (hY : Y.1.cls = RX23) (kk : wp w d Y (pc + 3) ls (.ref x :: st) h Q) : wp w d Y pc ls (.ref a :: st) h Q := x_gA (ci := 22) (k := 3) hf hd rfl (by decide) (by rw [hY]; exact q1286) kk
theorem GX23_25 {w : eW} {d : Nat} {Y : eY} {pc : Nat} {ls : eL} {st : List Value} {h : eH} {Q : eO → eH → Prop} {a : Nat} {x : Nat} (hf : g_A 22 h a 4 = some x) (hd : decode Y.2.1 pc = .ok (.getfield 25, 3)) (hY : Y.1.cls = RX23) (kk : wp w d Y (pc + 3) ls (.ref x :: st) h Q) : wp w d Y pc ls (.ref a :: st) h Q := x_gA (ci := 22) (k := 4) hf hd rfl (by decide) (by rw [hY]; exact q1288) kk
theorem GX23_32 {w : eW} {d : Nat} {Y : eY} {pc : Nat} {ls : eL} {st : List Value} {h : eH} {Q : eO → eH → Prop} {a : Nat} {x : Int32} (hf : g_I 21 h a 5 = some x) (hd : decode Y.2.1 pc = .ok (.getfield 32, 3)) (hY : Y.1.cls = RX23) (kk : wp w d Y (pc + 3) ls (.int x :: st) h Q) : wp w d Y pc ls (.ref a :: st) h Q := x_gIN (ci := 21) (k := 5) hf hd rfl (by decide) (by rw [hY]; exact q1260) kk
theorem GX23_38 {w : eW} {d : Nat} {Y : eY} {pc : Nat} {ls : eL} {st : List Value} {h : eH} {Q : eO → eH → Prop} {a : Nat} {x : Nat} (hf : g_A 21 h a 0 = some x) (hd : decode Y.2.1 pc = .ok (.getfield 38, 3)) (hY : Y.1.cls = RX23) (kk : wp w d Y (pc + 3) ls (.ref x :: st) h Q) : wp w d Y pc ls (.ref a :: st) h Q := x_gAN (ci := 21) (k := 0) hf hd rfl (by decide) (by rw [hY]; exact q1245) kk
theorem GX23_42 {w : eW} {d : Nat} {Y : eY} {pc : Nat} {ls : eL} {st : List Value} {h : eH} {Q : eO → eH → Prop} {a : Nat} {x : Nat} (hf : g_A 21 h a 1 = some x) (hd : decode Y.2.1 pc = .ok (.getfield 42, 3)) (hY : Y.1.cls = RX23) (kk : wp w d Y (pc + 3) ls (.ref x :: st) h Q) : wp w d Y pc ls (.ref a :: st) h Q := x_gAN (ci := 21) (k := 1) hf hd rfl (by decide) (by rw [hY]; exact q1249) kk
theorem GX23_45 {w : eW} {d : Nat} {Y : eY} {pc : Nat} {ls : eL} {st : List Value} {h : eH} {Q : eO → eH → Prop} {a : Nat} {x : Nat} (hf : g_A 21 h a 4 = some x) (hd : decode Y.2.1 pc = .ok (.getfield 45, 3)) (hY : Y.1.cls = RX23) (kk : wp w d Y (pc + 3) ls (.ref x :: st) h Q) : wp w d Y pc ls (.ref a :: st) h Q := x_gAN (ci := 21) (k := 4) hf hd rfl (by decide) (by rw [hY]; exact q1257) kk
theorem GX23_48 {w : eW} {d : Nat} {Y : eY} {pc : Nat} {ls : eL} {st : List Value} {h : eH} {Q : eO → eH → Prop} {a : Nat} {x : Nat} (hf : g_A 21 h a 3 = some x) (hd : decode Y.2.1 pc = .ok (.getfield 48, 3)) (hY : Y.1.cls = RX23) (kk : wp w d Y (pc + 3) ls (.ref x :: st) h Q) : wp w d Y pc ls (.ref a :: st) h Q := x_gAN (ci := 21) (k := 3) hf hd rfl (by decide) (by rw [hY]; exact q1255) kk
theorem GX23_51 {w : eW} {d : Nat} {Y : eY} {pc : Nat} {ls : eL} {st : List Value} {h : eH} {Q : eO → eH → Prop} {a : Nat} {x : Nat} (hf : g_A 21 h a 2 = some x) (hd : decode Y.2.1 pc = .ok (.getfield 51, 3)) (hY : Y.1.cls = RX23) (kk : wp w d Y (pc + 3) ls (.ref x :: st) h Q) : wp w d Y pc ls (.ref a :: st) h Q := x_gAN (ci := 21) (k := 2) hf hd rfl (by decide) (by rw [hY]; exact q1252) kk
theorem GX23_9 {w : eW} {d : Nat} {Y : eY} {pc : Nat} {ls : eL} {st : List Value} {h : eH} {Q : eO → eH → Prop} {a : Nat} {x : Nat} (hf : g_A 22 h a 0 = some x) (hd : decode Y.2.1 pc = .ok (.getfield 9, 3)) (hY : Y.1.cls = RX23) (kk : wp w d Y (pc + 3) ls (.ref x :: st) h Q) : wp w d Y pc ls (.ref a :: st) h Q := x_gA (ci := 22) (k := 0) hf hd rfl (by decide) (by rw [hY]; exact q1283) kk
def fX23_take_b166 (N : Nat) (k111 : Nat → Nat → Int32 → Int32 → Int32 → Int32 → eH → Option (Unit × eH)) (l0 : Nat) (l1 : Nat) (l2 : Int32) (l3 : Int32) (l5 : Int32) (l6 : Int32) (s0 : Nat) (s1 : Int32) (s2 : Int64) (s3 : Int32) (h : eH) : Option (Unit × eH) :=
  (q_V 101 h s0 s1 (.long (s2 + (s3).toInt64))).bind fun h1 =>
  k111 l0 l1 l2 l3 l5 (l6 + (1 : Int32)) h1
theorem pX23_take_b166 {w : eW} {d : Nat} (hd : 1 ≤ d + 1) {N : Nat} {k111 : Nat → Nat → Int32 → Int32 → Int32 → Int32 → eH → Option (Unit × eH)} (hk111 : ∀ l0 l1 l2 l3 l5 l6 h q, k111 l0 l1 l2 l3 l5 l6 h = some q → wp w (d + 1) YX23_take 111 [some (.ref l0), some (.ref l1), some (.int l2), some (.int l3), none, some (.int l5), some (.int l6)] [] h (e_is (e_rn c_V q))) {l0 : Nat} {l1 : Nat} {l2 : Int32} {l3 : Int32} {l5 : Int32} {l6 : Int32} {s0 : Nat} {s1 : Int32} {s2 : Int64} {s3 : Int32} {h : eH} {q} (hf : fX23_take_b166 N k111 l0 l1 l2 l3 l5 l6 s0 s1 s2 s3 h = some q) : wp w (d + 1) YX23_take 166 [some (.ref l0), some (.ref l1), some (.int l2), some (.int l3), none, some (.int l5), some (.int l6)] [.int s3, .long s2, .int s1, .ref s0] h (e_is (e_rn c_V q)) := by
  unfold fX23_take_b166 at hf
  refine w_i2l dX23_take_166 ?_
  refine w_ladd dX23_take_167 ?_
  obtain ⟨h1, b2, hf⟩ := Option.bind_eq_some_iff.mp hf
  refine x_qJ b2 dX23_take_168 ?_
  refine w_iinc dX23_take_169 (v := (l6 + (1 : Int32))) rfl rfl (by decide) (ls' := [some (.ref l0), some (.ref l1), some (.int l2), some (.int l3), none, some (.int l5), some (.int (l6 + (1 : Int32)))]) rfl ?_
  refine w_goto 111 dX23_take_172 (by decide) ?_
  exact (hk111 _ _ _ _ _ _ _ _ hf).to ⟨rfl, rfl, rfl, rfl, rfl, rfl, trivial⟩
def fX23_take_b165 (N : Nat) (k111 : Nat → Nat → Int32 → Int32 → Int32 → Int32 → eH → Option (Unit × eH)) (l0 : Nat) (l1 : Nat) (l2 : Int32) (l3 : Int32) (l5 : Int32) (l6 : Int32) (s0 : Nat) (s1 : Int32) (s2 : Int64) (h : eH) : Option (Unit × eH) :=
  fX23_take_b166 N k111 l0 l1 l2 l3 l5 l6 s0 s1 s2 (0 : Int32) h
theorem pX23_take_b165 {w : eW} {d : Nat} (hd : 1 ≤ d + 1) {N : Nat} {k111 : Nat → Nat → Int32 → Int32 → Int32 → Int32 → eH → Option (Unit × eH)} (hk111 : ∀ l0 l1 l2 l3 l5 l6 h q, k111 l0 l1 l2 l3 l5 l6 h = some q → wp w (d + 1) YX23_take 111 [some (.ref l0), some (.ref l1), some (.int l2), some (.int l3), none, some (.int l5), some (.int l6)] [] h (e_is (e_rn c_V q))) {l0 : Nat} {l1 : Nat} {l2 : Int32} {l3 : Int32} {l5 : Int32} {l6 : Int32} {s0 : Nat} {s1 : Int32} {s2 : Int64} {h : eH} {q} (hf : fX23_take_b165 N k111 l0 l1 l2 l3 l5 l6 s0 s1 s2 h = some q) : wp w (d + 1) YX23_take 165 [some (.ref l0), some (.ref l1), some (.int l2), some (.int l3), none, some (.int l5), some (.int l6)] [.long s2, .int s1, .ref s0] h (e_is (e_rn c_V q)) := by
  unfold fX23_take_b165 at hf
  refine w_iconst dX23_take_165 (v := 0) (by decide) ?_
  exact (pX23_take_b166 hd hk111 hf).to ⟨rfl, rfl, rfl, rfl, rfl, rfl, trivial⟩
def fX23_take_b216 (N : Nat) (k4 : Nat → Nat → Int32 → Int32 → eH → Option (Unit × eH)) (l0 : Nat) (l1 : Nat) (l3 : Int32) (s0 : Int32) (h : eH) : Option (Unit × eH) :=
  k4 l0 l1 s0 (l3 + (1 : Int32)) h
theorem pX23_take_b216 {w : eW} {d : Nat} (hd : 1 ≤ d + 1) {N : Nat} {k4 : Nat → Nat → Int32 → Int32 → eH → Option (Unit × eH)} (hk4 : ∀ l0 l1 l2 l3 h q, k4 l0 l1 l2 l3 h = some q → wp w (d + 1) YX23_take 4 [some (.ref l0), some (.ref l1), some (.int l2), some (.int l3), none, none, none] [] h (e_is (e_rn c_V q))) {l0 : Nat} {l1 : Nat} {l3 : Int32} {s0 : Int32} {h : eH} {q} (hf : fX23_take_b216 N k4 l0 l1 l3 s0 h = some q) : wp w (d + 1) YX23_take 216 [some (.ref l0), some (.ref l1), none, some (.int l3), none, none, none] [.int s0] h (e_is (e_rn c_V q)) := by
  unfold fX23_take_b216 at hf
  refine w_istore_n dX23_take_216 rfl (by decide) (ls' := [some (.ref l0), some (.ref l1), some (.int s0), some (.int l3), none, none, none]) rfl ?_
  refine w_iinc dX23_take_217 (v := (l3 + (1 : Int32))) rfl rfl (by decide) (ls' := [some (.ref l0), some (.ref l1), some (.int s0), some (.int (l3 + (1 : Int32))), none, none, none]) rfl ?_
  refine w_goto 4 dX23_take_220 (by decide) ?_
  exact (hk4 _ _ _ _ _ _ hf).to ⟨rfl, rfl, rfl, rfl, trivial⟩
def fX23_take_b189 (N : Nat) (k4 : Nat → Nat → Int32 → Int32 → eH → Option (Unit × eH)) (l0 : Nat) (l1 : Nat) (l2 : Int32) (l3 : Int32) (s0 : Nat) (s1 : Int32) (s2 : Int32) (h : eH) : Option (Unit × eH) :=
  (q_V 103 h s0 s1 (.int (s2 &&& 1))).bind fun h1 =>
  (g_A 21 h1 l1 0).bind fun a3 =>
  (r_I 102 h1 a3 l3).bind fun x5 =>
  if ¬ x5 = (5 : Int32) then
    fX23_take_b216 N k4 l0 l1 l3 (m_maxI (0 : Int32) (l2 - (1 : Int32))) h1
  else
    (g_A 21 h1 l1 3).bind fun a8 =>
    (r_I 100 h1 a8 l3).bind fun x10 =>
    fX23_take_b216 N k4 l0 l1 l3 x10 h1
theorem pX23_take_b189 {w : eW} {d : Nat} (hd : 1 ≤ d + 1) {N : Nat} {k4 : Nat → Nat → Int32 → Int32 → eH → Option (Unit × eH)} (hk4 : ∀ l0 l1 l2 l3 h q, k4 l0 l1 l2 l3 h = some q → wp w (d + 1) YX23_take 4 [some (.ref l0), some (.ref l1), some (.int l2), some (.int l3), none, none, none] [] h (e_is (e_rn c_V q))) {l0 : Nat} {l1 : Nat} {l2 : Int32} {l3 : Int32} {s0 : Nat} {s1 : Int32} {s2 : Int32} {h : eH} {q} (hf : fX23_take_b189 N k4 l0 l1 l2 l3 s0 s1 s2 h = some q) : wp w (d + 1) YX23_take 189 [some (.ref l0), some (.ref l1), some (.int l2), some (.int l3), none, none, none] [.int s2, .int s1, .ref s0] h (e_is (e_rn c_V q)) := by
  unfold fX23_take_b189 at hf
  obtain ⟨h1, b2, hf⟩ := Option.bind_eq_some_iff.mp hf
  refine x_qZ b2 dX23_take_189 ?_
  refine w_aload_n dX23_take_190 rfl rfl ?_
  obtain ⟨a3, b4, hf⟩ := Option.bind_eq_some_iff.mp hf
  refine GX23_38 b4 dX23_take_191 rfl ?_
  refine w_iload_n dX23_take_194 rfl rfl ?_
  obtain ⟨x5, b6, hf⟩ := Option.bind_eq_some_iff.mp hf
  refine x_rB b6 dX23_take_195 ?_
  refine w_iconst dX23_take_196 (v := 5) (by decide) ?_
  refine w_icmp_ne 209 dX23_take_197 (by decide) (fun c7 => ?_) (fun c7 => ?_)
  · replace hf := (if_pos (show ¬ x5 = (5 : Int32) from c7)).symm.trans hf
    refine w_iconst dX23_take_209 (v := 0) (by decide) ?_
    refine w_iload_n dX23_take_210 rfl rfl ?_
    refine w_iconst dX23_take_211 (v := 1) (by decide) ?_
    refine w_isub dX23_take_212 ?_
    refine x_maxI dX23_take_213 q3718 q2912 q478 q2913 (Nat.le_of_ble_eq_true rfl) ?_
    exact (pX23_take_b216 hd hk4 hf).to ⟨rfl, rfl, rfl, trivial⟩
  · replace hf := (if_neg (show ¬ (¬ x5 = (5 : Int32)) from (fun z => z c7))).symm.trans hf
    refine w_aload_n dX23_take_200 rfl rfl ?_
    obtain ⟨a8, b9, hf⟩ := Option.bind_eq_some_iff.mp hf
    refine GX23_48 b9 dX23_take_201 rfl ?_
    refine w_iload_n dX23_take_204 rfl rfl ?_
    obtain ⟨x10, b11, hf⟩ := Option.bind_eq_some_iff.mp hf
    refine x_rI b11 dX23_take_205 ?_
    refine w_goto 216 dX23_take_206 (by decide) ?_
    exact (pX23_take_b216 hd hk4 hf).to ⟨rfl, rfl, rfl, trivial⟩
def fX23_take_b111 (N : Nat) (k4 : Nat → Nat → Int32 → Int32 → eH → Option (Unit × eH)) : Nat → Nat → Nat → Int32 → Int32 → Int32 → Int32 → eH → Option (Unit × eH)
  | 0, _, _, _, _, _, _, _ => none
  | n + 1, l0, l1, l2, l3, l5, l6, h =>
    if (4 : Int32) ≤ l6 then
      (g_A 22 h l0 3).bind fun a2 =>
      if l2 ≤ 0 then
        fX23_take_b189 N k4 l0 l1 l2 l3 a2 l3 (0 : Int32) h
      else
        fX23_take_b189 N k4 l0 l1 l2 l3 a2 l3 (1 : Int32) h
    else
      (g_A 22 h l0 2).bind fun a5 =>
      (g_A 22 h l0 2).bind fun a7 =>
      (r_J h a7 (((4 : Int32) * l3) + l6)).bind fun x9 =>
      if l5 = 0 then
        fX23_take_b165 N (fX23_take_b111 N k4 n) l0 l1 l2 l3 l5 l6 a5 (((4 : Int32) * (l3 + (1 : Int32))) + l6) x9 h
      else
        (g_A 21 h l1 3).bind fun a12 =>
        (r_I 100 h a12 l3).bind fun x14 =>
        if ¬ x14 = l6 then
          fX23_take_b165 N (fX23_take_b111 N k4 n) l0 l1 l2 l3 l5 l6 a5 (((4 : Int32) * (l3 + (1 : Int32))) + l6) x9 h
        else
          (g_A 21 h l1 2).bind fun a17 =>
          (r_I 100 h a17 l3).bind fun x19 =>
          fX23_take_b166 N (fX23_take_b111 N k4 n) l0 l1 l2 l3 l5 l6 a5 (((4 : Int32) * (l3 + (1 : Int32))) + l6) x9 x19 h
theorem pX23_take_b111 {w : eW} {d : Nat} (hd : 1 ≤ d + 1) {N : Nat} {k4 : Nat → Nat → Int32 → Int32 → eH → Option (Unit × eH)} (hk4 : ∀ l0 l1 l2 l3 h q, k4 l0 l1 l2 l3 h = some q → wp w (d + 1) YX23_take 4 [some (.ref l0), some (.ref l1), some (.int l2), some (.int l3), none, none, none] [] h (e_is (e_rn c_V q))) : ∀ (n : Nat) l0 l1 l2 l3 l5 l6 h q, fX23_take_b111 N k4 n l0 l1 l2 l3 l5 l6 h = some q → wp w (d + 1) YX23_take 111 [some (.ref l0), some (.ref l1), some (.int l2), some (.int l3), none, some (.int l5), some (.int l6)] [] h (e_is (e_rn c_V q)) := by
  intro n
  induction n with
  | zero => intro l0 l1 l2 l3 l5 l6 h q hf; simp [fX23_take_b111] at hf
  | succ n ih =>
    intro l0 l1 l2 l3 l5 l6 h q hf
    rw [fX23_take_b111] at hf
    refine w_iload dX23_take_111 rfl ?_
    refine w_iconst dX23_take_113 (v := 4) (by decide) ?_
    refine w_icmp_ge 175 dX23_take_114 (by decide) (fun c1 => ?_) (fun c1 => ?_)
    · replace hf := (if_pos (show (4 : Int32) ≤ l6 from c1)).symm.trans hf
      refine w_aload_n dX23_take_175 rfl rfl ?_
      obtain ⟨a2, b3, hf⟩ := Option.bind_eq_some_iff.mp hf
      refine GX23_21 b3 dX23_take_176 rfl ?_
      refine w_iload_n dX23_take_179 rfl rfl ?_
      refine w_iload_n dX23_take_180 rfl rfl ?_
      refine w_if_le 188 dX23_take_181 (by decide) (fun c4 => ?_) (fun c4 => ?_)
      · replace hf := (if_pos (show l2 ≤ 0 from c4)).symm.trans hf
        refine w_iconst dX23_take_188 (v := 0) (by decide) ?_
        exact (pX23_take_b189 hd hk4 hf).to ⟨rfl, rfl, rfl, rfl, trivial⟩
      · replace hf := (if_neg (show ¬ (l2 ≤ 0) from c4)).symm.trans hf
        refine w_iconst dX23_take_184 (v := 1) (by decide) ?_
        refine w_goto 189 dX23_take_185 (by decide) ?_
        exact (pX23_take_b189 hd hk4 hf).to ⟨rfl, rfl, rfl, rfl, trivial⟩
    · replace hf := (if_neg (show ¬ ((4 : Int32) ≤ l6) from c1)).symm.trans hf
      refine w_aload_n dX23_take_117 rfl rfl ?_
      obtain ⟨a5, b6, hf⟩ := Option.bind_eq_some_iff.mp hf
      refine GX23_18 b6 dX23_take_118 rfl ?_
      refine w_iconst dX23_take_121 (v := 4) (by decide) ?_
      refine w_iload_n dX23_take_122 rfl rfl ?_
      refine w_iconst dX23_take_123 (v := 1) (by decide) ?_
      refine w_iadd dX23_take_124 ?_
      refine w_imul dX23_take_125 ?_
      refine w_iload dX23_take_126 rfl ?_
      refine w_iadd dX23_take_128 ?_
      refine w_aload_n dX23_take_129 rfl rfl ?_
      obtain ⟨a7, b8, hf⟩ := Option.bind_eq_some_iff.mp hf
      refine GX23_18 b8 dX23_take_130 rfl ?_
      refine w_iconst dX23_take_133 (v := 4) (by decide) ?_
      refine w_iload_n dX23_take_134 rfl rfl ?_
      refine w_imul dX23_take_135 ?_
      refine w_iload dX23_take_136 rfl ?_
      refine w_iadd dX23_take_138 ?_
      obtain ⟨x9, b10, hf⟩ := Option.bind_eq_some_iff.mp hf
      refine x_rJ b10 dX23_take_139 ?_
      refine w_iload dX23_take_140 rfl ?_
      refine w_if_eq 165 dX23_take_142 (by decide) (fun c11 => ?_) (fun c11 => ?_)
      · replace hf := (if_pos (show l5 = 0 from c11)).symm.trans hf
        exact (pX23_take_b165 hd ih hf).to ⟨rfl, rfl, rfl, rfl, rfl, rfl, trivial⟩
      · replace hf := (if_neg (show ¬ (l5 = 0) from c11)).symm.trans hf
        refine w_aload_n dX23_take_145 rfl rfl ?_
        obtain ⟨a12, b13, hf⟩ := Option.bind_eq_some_iff.mp hf
        refine GX23_48 b13 dX23_take_146 rfl ?_
        refine w_iload_n dX23_take_149 rfl rfl ?_
        obtain ⟨x14, b15, hf⟩ := Option.bind_eq_some_iff.mp hf
        refine x_rI b15 dX23_take_150 ?_
        refine w_iload dX23_take_151 rfl ?_
        refine w_icmp_ne 165 dX23_take_153 (by decide) (fun c16 => ?_) (fun c16 => ?_)
        · replace hf := (if_pos (show ¬ x14 = l6 from c16)).symm.trans hf
          exact (pX23_take_b165 hd ih hf).to ⟨rfl, rfl, rfl, rfl, rfl, rfl, trivial⟩
        · replace hf := (if_neg (show ¬ (¬ x14 = l6) from (fun z => z c16))).symm.trans hf
          refine w_aload_n dX23_take_156 rfl rfl ?_
          obtain ⟨a17, b18, hf⟩ := Option.bind_eq_some_iff.mp hf
          refine GX23_51 b18 dX23_take_157 rfl ?_
          refine w_iload_n dX23_take_160 rfl rfl ?_
          obtain ⟨x19, b20, hf⟩ := Option.bind_eq_some_iff.mp hf
          refine x_rI b20 dX23_take_161 ?_
          refine w_goto 166 dX23_take_162 (by decide) ?_
          exact (pX23_take_b166 hd ih hf).to ⟨rfl, rfl, rfl, rfl, rfl, rfl, trivial⟩
def fX23_take_b105 (N : Nat) (k4 : Nat → Nat → Int32 → Int32 → eH → Option (Unit × eH)) (l0 : Nat) (l1 : Nat) (l2 : Int32) (l3 : Int32) (l5 : Int32) (s0 : Nat) (s1 : Int32) (s2 : Int64) (s3 : Int32) (h : eH) : Option (Unit × eH) :=
  (q_V 101 h s0 s1 (.long (s2 + (s3).toInt64))).bind fun h1 =>
  fX23_take_b111 N k4 N l0 l1 l2 l3 l5 (0 : Int32) h1
theorem pX23_take_b105 {w : eW} {d : Nat} (hd : 1 ≤ d + 1) {N : Nat} {k4 : Nat → Nat → Int32 → Int32 → eH → Option (Unit × eH)} (hk4 : ∀ l0 l1 l2 l3 h q, k4 l0 l1 l2 l3 h = some q → wp w (d + 1) YX23_take 4 [some (.ref l0), some (.ref l1), some (.int l2), some (.int l3), none, none, none] [] h (e_is (e_rn c_V q))) {l0 : Nat} {l1 : Nat} {l2 : Int32} {l3 : Int32} {l5 : Int32} {s0 : Nat} {s1 : Int32} {s2 : Int64} {s3 : Int32} {h : eH} {q} (hf : fX23_take_b105 N k4 l0 l1 l2 l3 l5 s0 s1 s2 s3 h = some q) : wp w (d + 1) YX23_take 105 [some (.ref l0), some (.ref l1), some (.int l2), some (.int l3), none, some (.int l5), none] [.int s3, .long s2, .int s1, .ref s0] h (e_is (e_rn c_V q)) := by
  unfold fX23_take_b105 at hf
  refine w_i2l dX23_take_105 ?_
  refine w_ladd dX23_take_106 ?_
  obtain ⟨h1, b2, hf⟩ := Option.bind_eq_some_iff.mp hf
  refine x_qJ b2 dX23_take_107 ?_
  refine w_iconst dX23_take_108 (v := 0) (by decide) ?_
  refine w_istore dX23_take_109 (by decide) (ls' := [some (.ref l0), some (.ref l1), some (.int l2), some (.int l3), none, some (.int l5), some (.int (0 : Int32))]) rfl ?_
  exact (pX23_take_b111 hd hk4 N _ _ _ _ _ _ _ _ hf).to ⟨rfl, rfl, rfl, rfl, rfl, rfl, trivial⟩
def fX23_take_b74 (N : Nat) (k4 : Nat → Nat → Int32 → Int32 → eH → Option (Unit × eH)) (l0 : Nat) (l1 : Nat) (l2 : Int32) (l3 : Int32) (l5 : Int32) (s0 : Nat) (s1 : Int32) (s2 : Int64) (s3 : Int32) (h : eH) : Option (Unit × eH) :=
  (q_V 101 h s0 s1 (.long (s2 + (s3).toInt64))).bind fun h1 =>
  (g_A 22 h1 l0 1).bind fun a3 =>
  (g_A 22 h1 l0 1).bind fun a5 =>
  (r_J h1 a5 l3).bind fun x7 =>
  if l5 = 0 then
    fX23_take_b105 N k4 l0 l1 l2 l3 l5 a3 (l3 + (1 : Int32)) x7 (0 : Int32) h1
  else
    (g_A 21 h1 l1 4).bind fun a10 =>
    (r_I 100 h1 a10 l3).bind fun x12 =>
    fX23_take_b105 N k4 l0 l1 l2 l3 l5 a3 (l3 + (1 : Int32)) x7 x12 h1
theorem pX23_take_b74 {w : eW} {d : Nat} (hd : 1 ≤ d + 1) {N : Nat} {k4 : Nat → Nat → Int32 → Int32 → eH → Option (Unit × eH)} (hk4 : ∀ l0 l1 l2 l3 h q, k4 l0 l1 l2 l3 h = some q → wp w (d + 1) YX23_take 4 [some (.ref l0), some (.ref l1), some (.int l2), some (.int l3), none, none, none] [] h (e_is (e_rn c_V q))) {l0 : Nat} {l1 : Nat} {l2 : Int32} {l3 : Int32} {l5 : Int32} {s0 : Nat} {s1 : Int32} {s2 : Int64} {s3 : Int32} {h : eH} {q} (hf : fX23_take_b74 N k4 l0 l1 l2 l3 l5 s0 s1 s2 s3 h = some q) : wp w (d + 1) YX23_take 74 [some (.ref l0), some (.ref l1), some (.int l2), some (.int l3), none, some (.int l5), none] [.int s3, .long s2, .int s1, .ref s0] h (e_is (e_rn c_V q)) := by
  unfold fX23_take_b74 at hf
  refine w_i2l dX23_take_74 ?_
  refine w_ladd dX23_take_75 ?_
  obtain ⟨h1, b2, hf⟩ := Option.bind_eq_some_iff.mp hf
  refine x_qJ b2 dX23_take_76 ?_
  refine w_aload_n dX23_take_77 rfl rfl ?_
  obtain ⟨a3, b4, hf⟩ := Option.bind_eq_some_iff.mp hf
  refine GX23_15 b4 dX23_take_78 rfl ?_
  refine w_iload_n dX23_take_81 rfl rfl ?_
  refine w_iconst dX23_take_82 (v := 1) (by decide) ?_
  refine w_iadd dX23_take_83 ?_
  refine w_aload_n dX23_take_84 rfl rfl ?_
  obtain ⟨a5, b6, hf⟩ := Option.bind_eq_some_iff.mp hf
  refine GX23_15 b6 dX23_take_85 rfl ?_
  refine w_iload_n dX23_take_88 rfl rfl ?_
  obtain ⟨x7, b8, hf⟩ := Option.bind_eq_some_iff.mp hf
  refine x_rJ b8 dX23_take_89 ?_
  refine w_iload dX23_take_90 rfl ?_
  refine w_if_eq 104 dX23_take_92 (by decide) (fun c9 => ?_) (fun c9 => ?_)
  · replace hf := (if_pos (show l5 = 0 from c9)).symm.trans hf
    refine w_iconst dX23_take_104 (v := 0) (by decide) ?_
    exact (pX23_take_b105 hd hk4 hf).to ⟨rfl, rfl, rfl, rfl, rfl, trivial⟩
  · replace hf := (if_neg (show ¬ (l5 = 0) from c9)).symm.trans hf
    refine w_aload_n dX23_take_95 rfl rfl ?_
    obtain ⟨a10, b11, hf⟩ := Option.bind_eq_some_iff.mp hf
    refine GX23_45 b11 dX23_take_96 rfl ?_
    refine w_iload_n dX23_take_99 rfl rfl ?_
    obtain ⟨x12, b13, hf⟩ := Option.bind_eq_some_iff.mp hf
    refine x_rI b13 dX23_take_100 ?_
    refine w_goto 105 dX23_take_101 (by decide) ?_
    exact (pX23_take_b105 hd hk4 hf).to ⟨rfl, rfl, rfl, rfl, rfl, trivial⟩
def fX23_take_b44 (N : Nat) (k4 : Nat → Nat → Int32 → Int32 → eH → Option (Unit × eH)) (l0 : Nat) (l1 : Nat) (l2 : Int32) (l3 : Int32) (l4 : Int32) (s0 : Int32) (h : eH) : Option (Unit × eH) :=
  (g_A 22 h l0 0).bind fun a1 =>
  (g_A 22 h l0 0).bind fun a3 =>
  (r_J h a3 l3).bind fun x5 =>
  if l4 = 0 then
    fX23_take_b74 N k4 l0 l1 l2 l3 s0 a1 (l3 + (1 : Int32)) x5 (0 : Int32) h
  else
    (g_A 21 h l1 1).bind fun a8 =>
    (r_I 100 h a8 l3).bind fun x10 =>
    fX23_take_b74 N k4 l0 l1 l2 l3 s0 a1 (l3 + (1 : Int32)) x5 x10 h
theorem pX23_take_b44 {w : eW} {d : Nat} (hd : 1 ≤ d + 1) {N : Nat} {k4 : Nat → Nat → Int32 → Int32 → eH → Option (Unit × eH)} (hk4 : ∀ l0 l1 l2 l3 h q, k4 l0 l1 l2 l3 h = some q → wp w (d + 1) YX23_take 4 [some (.ref l0), some (.ref l1), some (.int l2), some (.int l3), none, none, none] [] h (e_is (e_rn c_V q))) {l0 : Nat} {l1 : Nat} {l2 : Int32} {l3 : Int32} {l4 : Int32} {s0 : Int32} {h : eH} {q} (hf : fX23_take_b44 N k4 l0 l1 l2 l3 l4 s0 h = some q) : wp w (d + 1) YX23_take 44 [some (.ref l0), some (.ref l1), some (.int l2), some (.int l3), some (.int l4), none, none] [.int s0] h (e_is (e_rn c_V q)) := by
  unfold fX23_take_b44 at hf
  refine w_istore dX23_take_44 (by decide) (ls' := [some (.ref l0), some (.ref l1), some (.int l2), some (.int l3), some (.int l4), some (.int s0), none]) rfl ?_
  refine w_aload_n dX23_take_46 rfl rfl ?_
  obtain ⟨a1, b2, hf⟩ := Option.bind_eq_some_iff.mp hf
  refine GX23_9 b2 dX23_take_47 rfl ?_
  refine w_iload_n dX23_take_50 rfl rfl ?_
  refine w_iconst dX23_take_51 (v := 1) (by decide) ?_
  refine w_iadd dX23_take_52 ?_
  refine w_aload_n dX23_take_53 rfl rfl ?_
  obtain ⟨a3, b4, hf⟩ := Option.bind_eq_some_iff.mp hf
  refine GX23_9 b4 dX23_take_54 rfl ?_
  refine w_iload_n dX23_take_57 rfl rfl ?_
  obtain ⟨x5, b6, hf⟩ := Option.bind_eq_some_iff.mp hf
  refine x_rJ b6 dX23_take_58 ?_
  refine w_iload dX23_take_59 rfl ?_
  refine w_if_eq 73 dX23_take_61 (by decide) (fun c7 => ?_) (fun c7 => ?_)
  · replace hf := (if_pos (show l4 = 0 from c7)).symm.trans hf
    refine w_iconst dX23_take_73 (v := 0) (by decide) ?_
    exact (pX23_take_b74 hd hk4 hf).to ⟨rfl, rfl, rfl, rfl, rfl, trivial⟩
  · replace hf := (if_neg (show ¬ (l4 = 0) from c7)).symm.trans hf
    refine w_aload_n dX23_take_64 rfl rfl ?_
    obtain ⟨a8, b9, hf⟩ := Option.bind_eq_some_iff.mp hf
    refine GX23_42 b9 dX23_take_65 rfl ?_
    refine w_iload_n dX23_take_68 rfl rfl ?_
    obtain ⟨x10, b11, hf⟩ := Option.bind_eq_some_iff.mp hf
    refine x_rI b11 dX23_take_69 ?_
    refine w_goto 74 dX23_take_70 (by decide) ?_
    exact (pX23_take_b74 hd hk4 hf).to ⟨rfl, rfl, rfl, rfl, rfl, trivial⟩
def fX23_take_b27 (N : Nat) (k4 : Nat → Nat → Int32 → Int32 → eH → Option (Unit × eH)) (l0 : Nat) (l1 : Nat) (l2 : Int32) (l3 : Int32) (s0 : Int32) (h : eH) : Option (Unit × eH) :=
  (g_A 21 h l1 0).bind fun a1 =>
  (r_I 102 h a1 l3).bind fun x3 =>
  if ¬ x3 = (1 : Int32) then
    fX23_take_b44 N k4 l0 l1 l2 l3 s0 (0 : Int32) h
  else
    fX23_take_b44 N k4 l0 l1 l2 l3 s0 (1 : Int32) h
theorem pX23_take_b27 {w : eW} {d : Nat} (hd : 1 ≤ d + 1) {N : Nat} {k4 : Nat → Nat → Int32 → Int32 → eH → Option (Unit × eH)} (hk4 : ∀ l0 l1 l2 l3 h q, k4 l0 l1 l2 l3 h = some q → wp w (d + 1) YX23_take 4 [some (.ref l0), some (.ref l1), some (.int l2), some (.int l3), none, none, none] [] h (e_is (e_rn c_V q))) {l0 : Nat} {l1 : Nat} {l2 : Int32} {l3 : Int32} {s0 : Int32} {h : eH} {q} (hf : fX23_take_b27 N k4 l0 l1 l2 l3 s0 h = some q) : wp w (d + 1) YX23_take 27 [some (.ref l0), some (.ref l1), some (.int l2), some (.int l3), none, none, none] [.int s0] h (e_is (e_rn c_V q)) := by
  unfold fX23_take_b27 at hf
  refine w_istore dX23_take_27 (by decide) (ls' := [some (.ref l0), some (.ref l1), some (.int l2), some (.int l3), some (.int s0), none, none]) rfl ?_
  refine w_aload_n dX23_take_29 rfl rfl ?_
  obtain ⟨a1, b2, hf⟩ := Option.bind_eq_some_iff.mp hf
  refine GX23_38 b2 dX23_take_30 rfl ?_
  refine w_iload_n dX23_take_33 rfl rfl ?_
  obtain ⟨x3, b4, hf⟩ := Option.bind_eq_some_iff.mp hf
  refine x_rB b4 dX23_take_34 ?_
  refine w_iconst dX23_take_35 (v := 1) (by decide) ?_
  refine w_icmp_ne 43 dX23_take_36 (by decide) (fun c5 => ?_) (fun c5 => ?_)
  · replace hf := (if_pos (show ¬ x3 = (1 : Int32) from c5)).symm.trans hf
    refine w_iconst dX23_take_43 (v := 0) (by decide) ?_
    exact (pX23_take_b44 hd hk4 hf).to ⟨rfl, rfl, rfl, rfl, rfl, trivial⟩
  · replace hf := (if_neg (show ¬ (¬ x3 = (1 : Int32)) from (fun z => z c5))).symm.trans hf
    refine w_iconst dX23_take_39 (v := 1) (by decide) ?_
    refine w_goto 44 dX23_take_40 (by decide) ?_
    exact (pX23_take_b44 hd hk4 hf).to ⟨rfl, rfl, rfl, rfl, rfl, trivial⟩
def fX23_take_b311 (N : Nat) (k225 : Nat → Nat → Int32 → eH → Option (Unit × eH)) (l0 : Nat) (l1 : Nat) (l3 : Int32) (l5 : Int32) (h : eH) : Option (Unit × eH) :=
  (g_A 22 h l0 4).bind fun a1 =>
  (q_V 100 h a1 l3 (.int l5)).bind fun h3 =>
  k225 l0 l1 (l3 + (1 : Int32)) h3
theorem pX23_take_b311 {w : eW} {d : Nat} (hd : 1 ≤ d + 1) {N : Nat} {k225 : Nat → Nat → Int32 → eH → Option (Unit × eH)} (hk225 : ∀ l0 l1 l3 h q, k225 l0 l1 l3 h = some q → wp w (d + 1) YX23_take 225 [some (.ref l0), some (.ref l1), none, some (.int l3), none, none, none] [] h (e_is (e_rn c_V q))) {l0 : Nat} {l1 : Nat} {l3 : Int32} {l5 : Int32} {h : eH} {q} (hf : fX23_take_b311 N k225 l0 l1 l3 l5 h = some q) : wp w (d + 1) YX23_take 311 [some (.ref l0), some (.ref l1), none, some (.int l3), none, some (.int l5), none] [] h (e_is (e_rn c_V q)) := by
  unfold fX23_take_b311 at hf
  refine w_aload_n dX23_take_311 rfl rfl ?_
  obtain ⟨a1, b2, hf⟩ := Option.bind_eq_some_iff.mp hf
  refine GX23_25 b2 dX23_take_312 rfl ?_
  refine w_iload_n dX23_take_315 rfl rfl ?_
  refine w_iload dX23_take_316 rfl ?_
  obtain ⟨h3, b4, hf⟩ := Option.bind_eq_some_iff.mp hf
  refine x_qI b4 dX23_take_318 ?_
  refine w_iinc dX23_take_319 (v := (l3 + (1 : Int32))) rfl rfl (by decide) (ls' := [some (.ref l0), some (.ref l1), none, some (.int (l3 + (1 : Int32))), none, some (.int l5), none]) rfl ?_
  refine w_goto 225 dX23_take_322 (by decide) ?_
  exact (hk225 _ _ _ _ _ hf).to ⟨rfl, rfl, rfl, trivial⟩
def fX23_take_b287 (N : Nat) (k225 : Nat → Nat → Int32 → eH → Option (Unit × eH)) : Nat → Nat → Nat → Int32 → Int32 → eH → Option (Unit × eH)
  | 0, _, _, _, _, _ => none
  | n + 1, l0, l1, l3, l5, h =>
    (g_I 21 h l1 5).bind fun x1 =>
    if x1 ≤ l5 then
      fX23_take_b311 N k225 l0 l1 l3 l5 h
    else
      (k_ok 21 h l1).bind fun _ =>
      (fX22_isDropped l1 l5 h).bind fun q5 =>
      if q5.1 = 0 then
        fX23_take_b311 N k225 l0 l1 l3 l5 q5.2
      else
        fX23_take_b287 N k225 n l0 l1 l3 (l5 + (1 : Int32)) q5.2
theorem pX23_take_b287 {w : eW} {d : Nat} (hd : 1 ≤ d + 1) {N : Nat} {k225 : Nat → Nat → Int32 → eH → Option (Unit × eH)} (hk225 : ∀ l0 l1 l3 h q, k225 l0 l1 l3 h = some q → wp w (d + 1) YX23_take 225 [some (.ref l0), some (.ref l1), none, some (.int l3), none, none, none] [] h (e_is (e_rn c_V q))) : ∀ (n : Nat) l0 l1 l3 l5 h q, fX23_take_b287 N k225 n l0 l1 l3 l5 h = some q → wp w (d + 1) YX23_take 287 [some (.ref l0), some (.ref l1), none, some (.int l3), none, some (.int l5), none] [] h (e_is (e_rn c_V q)) := by
  intro n
  induction n with
  | zero => intro l0 l1 l3 l5 h q hf; simp [fX23_take_b287] at hf
  | succ n ih =>
    intro l0 l1 l3 l5 h q hf
    rw [fX23_take_b287] at hf
    refine w_iload dX23_take_287 rfl ?_
    refine w_aload_n dX23_take_289 rfl rfl ?_
    obtain ⟨x1, b2, hf⟩ := Option.bind_eq_some_iff.mp hf
    refine GX23_32 b2 dX23_take_290 rfl ?_
    refine w_icmp_ge 311 dX23_take_293 (by decide) (fun c3 => ?_) (fun c3 => ?_)
    · replace hf := (if_pos (show x1 ≤ l5 from c3)).symm.trans hf
      exact (pX23_take_b311 hd hk225 hf).to ⟨rfl, rfl, rfl, rfl, trivial⟩
    · replace hf := (if_neg (show ¬ (x1 ≤ l5) from c3)).symm.trans hf
      refine w_aload_n dX23_take_296 rfl rfl ?_
      refine w_iload dX23_take_297 rfl ?_
      obtain ⟨_, b4, hf⟩ := Option.bind_eq_some_iff.mp hf
      refine x_cnI hf (e_stV (Yc := YX22_isDropped) (ci := 21) (av := [.int l5]) (st := []) dX23_take_299 q3720 mX22_isDropped rfl (k_ok_some b4).1 (k_ok_some b4).2) mX22_isDropped.2.2.1 mX22_isDropped.2.2.2.2.1 (Nat.le_of_ble_eq_true rfl) (Nat.le_of_ble_eq_true rfl) (fun q hq => pX22_isDropped (by omega) hq) (fun q5 hf => ?_)
      refine w_if_eq 311 dX23_take_302 (by decide) (fun c6 => ?_) (fun c6 => ?_)
      · replace hf := (if_pos (show q5.1 = 0 from c6)).symm.trans hf
        exact (pX23_take_b311 hd hk225 hf).to ⟨rfl, rfl, rfl, rfl, trivial⟩
      · replace hf := (if_neg (show ¬ (q5.1 = 0) from c6)).symm.trans hf
        refine w_iinc dX23_take_305 (v := (l5 + (1 : Int32))) rfl rfl (by decide) (ls' := [some (.ref l0), some (.ref l1), none, some (.int l3), none, some (.int (l5 + (1 : Int32))), none]) rfl ?_
        refine w_goto 287 dX23_take_308 (by decide) ?_
        exact (ih _ _ _ _ _ _ hf).to ⟨rfl, rfl, rfl, rfl, trivial⟩
def fX23_take_b269 (N : Nat) (k225 : Nat → Nat → Int32 → eH → Option (Unit × eH)) (l0 : Nat) (l1 : Nat) (l3 : Int32) (l4 : Int32) (s0 : Int32) (h : eH) : Option (Unit × eH) :=
  if l4 = 0 then
    fX23_take_b287 N k225 N l0 l1 l3 s0 h
  else
    (g_A 21 h l1 2).bind fun a2 =>
    (r_I 100 h a2 l3).bind fun x4 =>
    if ¬ x4 = (-2147483648 : Int32) then
      fX23_take_b311 N k225 l0 l1 l3 s0 h
    else
      fX23_take_b287 N k225 N l0 l1 l3 s0 h
theorem pX23_take_b269 {w : eW} {d : Nat} (hd : 1 ≤ d + 1) {N : Nat} {k225 : Nat → Nat → Int32 → eH → Option (Unit × eH)} (hk225 : ∀ l0 l1 l3 h q, k225 l0 l1 l3 h = some q → wp w (d + 1) YX23_take 225 [some (.ref l0), some (.ref l1), none, some (.int l3), none, none, none] [] h (e_is (e_rn c_V q))) {l0 : Nat} {l1 : Nat} {l3 : Int32} {l4 : Int32} {s0 : Int32} {h : eH} {q} (hf : fX23_take_b269 N k225 l0 l1 l3 l4 s0 h = some q) : wp w (d + 1) YX23_take 269 [some (.ref l0), some (.ref l1), none, some (.int l3), some (.int l4), none, none] [.int s0] h (e_is (e_rn c_V q)) := by
  unfold fX23_take_b269 at hf
  refine w_istore dX23_take_269 (by decide) (ls' := [some (.ref l0), some (.ref l1), none, some (.int l3), some (.int l4), some (.int s0), none]) rfl ?_
  refine w_iload dX23_take_271 rfl ?_
  refine w_if_eq 287 dX23_take_273 (by decide) (fun c1 => ?_) (fun c1 => ?_)
  · replace hf := (if_pos (show l4 = 0 from c1)).symm.trans hf
    exact (pX23_take_b287 hd hk225 N _ _ _ _ _ _ hf).to ⟨rfl, rfl, rfl, rfl, trivial⟩
  · replace hf := (if_neg (show ¬ (l4 = 0) from c1)).symm.trans hf
    refine w_aload_n dX23_take_276 rfl rfl ?_
    obtain ⟨a2, b3, hf⟩ := Option.bind_eq_some_iff.mp hf
    refine GX23_51 b3 dX23_take_277 rfl ?_
    refine w_iload_n dX23_take_280 rfl rfl ?_
    obtain ⟨x4, b5, hf⟩ := Option.bind_eq_some_iff.mp hf
    refine x_rI b5 dX23_take_281 ?_
    refine w_ldc dX23_take_282 q3719 ?_
    refine w_icmp_ne 311 dX23_take_284 (by decide) (fun c6 => ?_) (fun c6 => ?_)
    · replace hf := (if_pos (show ¬ x4 = (-2147483648 : Int32) from c6)).symm.trans hf
      exact (pX23_take_b311 hd hk225 hf).to ⟨rfl, rfl, rfl, rfl, trivial⟩
    · replace hf := (if_neg (show ¬ (¬ x4 = (-2147483648 : Int32)) from (fun z => z c6))).symm.trans hf
      exact (pX23_take_b287 hd hk225 N _ _ _ _ _ _ hf).to ⟨rfl, rfl, rfl, rfl, trivial⟩
def fX23_take_b248 (N : Nat) (k225 : Nat → Nat → Int32 → eH → Option (Unit × eH)) (l0 : Nat) (l1 : Nat) (l3 : Int32) (s0 : Int32) (h : eH) : Option (Unit × eH) :=
  if s0 = 0 then
    fX23_take_b269 N k225 l0 l1 l3 s0 l3 h
  else
    (g_A 21 h l1 3).bind fun a2 =>
    (r_I 100 h a2 l3).bind fun x4 =>
    fX23_take_b269 N k225 l0 l1 l3 s0 ((l3 + (1 : Int32)) + x4) h
theorem pX23_take_b248 {w : eW} {d : Nat} (hd : 1 ≤ d + 1) {N : Nat} {k225 : Nat → Nat → Int32 → eH → Option (Unit × eH)} (hk225 : ∀ l0 l1 l3 h q, k225 l0 l1 l3 h = some q → wp w (d + 1) YX23_take 225 [some (.ref l0), some (.ref l1), none, some (.int l3), none, none, none] [] h (e_is (e_rn c_V q))) {l0 : Nat} {l1 : Nat} {l3 : Int32} {s0 : Int32} {h : eH} {q} (hf : fX23_take_b248 N k225 l0 l1 l3 s0 h = some q) : wp w (d + 1) YX23_take 248 [some (.ref l0), some (.ref l1), none, some (.int l3), none, none, none] [.int s0] h (e_is (e_rn c_V q)) := by
  unfold fX23_take_b248 at hf
  refine w_istore dX23_take_248 (by decide) (ls' := [some (.ref l0), some (.ref l1), none, some (.int l3), some (.int s0), none, none]) rfl ?_
  refine w_iload dX23_take_250 rfl ?_
  refine w_if_eq 268 dX23_take_252 (by decide) (fun c1 => ?_) (fun c1 => ?_)
  · replace hf := (if_pos (show s0 = 0 from c1)).symm.trans hf
    refine w_iload_n dX23_take_268 rfl rfl ?_
    exact (pX23_take_b269 hd hk225 hf).to ⟨rfl, rfl, rfl, rfl, trivial⟩
  · replace hf := (if_neg (show ¬ (s0 = 0) from c1)).symm.trans hf
    refine w_iload_n dX23_take_255 rfl rfl ?_
    refine w_iconst dX23_take_256 (v := 1) (by decide) ?_
    refine w_iadd dX23_take_257 ?_
    refine w_aload_n dX23_take_258 rfl rfl ?_
    obtain ⟨a2, b3, hf⟩ := Option.bind_eq_some_iff.mp hf
    refine GX23_48 b3 dX23_take_259 rfl ?_
    refine w_iload_n dX23_take_262 rfl rfl ?_
    obtain ⟨x4, b5, hf⟩ := Option.bind_eq_some_iff.mp hf
    refine x_rI b5 dX23_take_263 ?_
    refine w_iadd dX23_take_264 ?_
    refine w_goto 269 dX23_take_265 (by decide) ?_
    exact (pX23_take_b269 hd hk225 hf).to ⟨rfl, rfl, rfl, rfl, trivial⟩
def fX23_take_b225 (N : Nat) : Nat → Nat → Nat → Int32 → eH → Option (Unit × eH)
  | 0, _, _, _, _ => none
  | n + 1, l0, l1, l3, h =>
    (g_I 21 h l1 5).bind fun x1 =>
    if x1 ≤ l3 then
      some ((), h)
    else
      (g_A 21 h l1 0).bind fun a4 =>
      (r_I 102 h a4 l3).bind fun x6 =>
      if ¬ x6 = (5 : Int32) then
        fX23_take_b248 N (fX23_take_b225 N n) l0 l1 l3 (0 : Int32) h
      else
        fX23_take_b248 N (fX23_take_b225 N n) l0 l1 l3 (1 : Int32) h
theorem pX23_take_b225 {w : eW} {d : Nat} (hd : 1 ≤ d + 1) {N : Nat} : ∀ (n : Nat) l0 l1 l3 h q, fX23_take_b225 N n l0 l1 l3 h = some q → wp w (d + 1) YX23_take 225 [some (.ref l0), some (.ref l1), none, some (.int l3), none, none, none] [] h (e_is (e_rn c_V q)) := by
  intro n
  induction n with
  | zero => intro l0 l1 l3 h q hf; simp [fX23_take_b225] at hf
  | succ n ih =>
    intro l0 l1 l3 h q hf
    rw [fX23_take_b225] at hf
    refine w_iload_n dX23_take_225 rfl rfl ?_
    refine w_aload_n dX23_take_226 rfl rfl ?_
    obtain ⟨x1, b2, hf⟩ := Option.bind_eq_some_iff.mp hf
    refine GX23_32 b2 dX23_take_227 rfl ?_
    refine w_icmp_ge 325 dX23_take_230 (by decide) (fun c3 => ?_) (fun c3 => ?_)
    · replace hf := (if_pos (show x1 ≤ l3 from c3)).symm.trans hf
      cases hf
      exact w_vret dX23_take_325 rfl rfl
    · replace hf := (if_neg (show ¬ (x1 ≤ l3) from c3)).symm.trans hf
      refine w_aload_n dX23_take_233 rfl rfl ?_
      obtain ⟨a4, b5, hf⟩ := Option.bind_eq_some_iff.mp hf
      refine GX23_38 b5 dX23_take_234 rfl ?_
      refine w_iload_n dX23_take_237 rfl rfl ?_
      obtain ⟨x6, b7, hf⟩ := Option.bind_eq_some_iff.mp hf
      refine x_rB b7 dX23_take_238 ?_
      refine w_iconst dX23_take_239 (v := 5) (by decide) ?_
      refine w_icmp_ne 247 dX23_take_240 (by decide) (fun c8 => ?_) (fun c8 => ?_)
      · replace hf := (if_pos (show ¬ x6 = (5 : Int32) from c8)).symm.trans hf
        refine w_iconst dX23_take_247 (v := 0) (by decide) ?_
        exact (pX23_take_b248 hd ih hf).to ⟨rfl, rfl, rfl, trivial⟩
      · replace hf := (if_neg (show ¬ (¬ x6 = (5 : Int32)) from (fun z => z c8))).symm.trans hf
        refine w_iconst dX23_take_243 (v := 1) (by decide) ?_
        refine w_goto 248 dX23_take_244 (by decide) ?_
        exact (pX23_take_b248 hd ih hf).to ⟨rfl, rfl, rfl, trivial⟩
def fX23_take_b4 (N : Nat) : Nat → Nat → Nat → Int32 → Int32 → eH → Option (Unit × eH)
  | 0, _, _, _, _, _ => none
  | n + 1, l0, l1, l2, l3, h =>
    (g_I 21 h l1 5).bind fun x1 =>
    if x1 ≤ l3 then
      fX23_take_b225 N N l0 l1 (0 : Int32) h
    else
      (g_A 21 h l1 0).bind fun a4 =>
      (r_I 102 h a4 l3).bind fun x6 =>
      if (4 : Int32) ≤ x6 then
        fX23_take_b27 N (fX23_take_b4 N n) l0 l1 l2 l3 (0 : Int32) h
      else
        fX23_take_b27 N (fX23_take_b4 N n) l0 l1 l2 l3 (1 : Int32) h
theorem pX23_take_b4 {w : eW} {d : Nat} (hd : 1 ≤ d + 1) {N : Nat} : ∀ (n : Nat) l0 l1 l2 l3 h q, fX23_take_b4 N n l0 l1 l2 l3 h = some q → wp w (d + 1) YX23_take 4 [some (.ref l0), some (.ref l1), some (.int l2), some (.int l3), none, none, none] [] h (e_is (e_rn c_V q)) := by
  intro n
  induction n with
  | zero => intro l0 l1 l2 l3 h q hf; simp [fX23_take_b4] at hf
  | succ n ih =>
    intro l0 l1 l2 l3 h q hf
    rw [fX23_take_b4] at hf
    refine w_iload_n dX23_take_4 rfl rfl ?_
    refine w_aload_n dX23_take_5 rfl rfl ?_
    obtain ⟨x1, b2, hf⟩ := Option.bind_eq_some_iff.mp hf
    refine GX23_32 b2 dX23_take_6 rfl ?_
    refine w_icmp_ge 223 dX23_take_9 (by decide) (fun c3 => ?_) (fun c3 => ?_)
    · replace hf := (if_pos (show x1 ≤ l3 from c3)).symm.trans hf
      refine w_iconst dX23_take_223 (v := 0) (by decide) ?_
      refine w_istore_n dX23_take_224 rfl (by decide) (ls' := [some (.ref l0), some (.ref l1), some (.int l2), some (.int (0 : Int32)), none, none, none]) rfl ?_
      exact (pX23_take_b225 hd N _ _ _ _ _ hf).to ⟨rfl, rfl, rfl, trivial⟩
    · replace hf := (if_neg (show ¬ (x1 ≤ l3) from c3)).symm.trans hf
      refine w_aload_n dX23_take_12 rfl rfl ?_
      obtain ⟨a4, b5, hf⟩ := Option.bind_eq_some_iff.mp hf
      refine GX23_38 b5 dX23_take_13 rfl ?_
      refine w_iload_n dX23_take_16 rfl rfl ?_
      obtain ⟨x6, b7, hf⟩ := Option.bind_eq_some_iff.mp hf
      refine x_rB b7 dX23_take_17 ?_
      refine w_iconst dX23_take_18 (v := 4) (by decide) ?_
      refine w_icmp_ge 26 dX23_take_19 (by decide) (fun c8 => ?_) (fun c8 => ?_)
      · replace hf := (if_pos (show (4 : Int32) ≤ x6 from c8)).symm.trans hf
        refine w_iconst dX23_take_26 (v := 0) (by decide) ?_
        exact (pX23_take_b27 hd ih hf).to ⟨rfl, rfl, rfl, rfl, trivial⟩
      · replace hf := (if_neg (show ¬ ((4 : Int32) ≤ x6) from c8)).symm.trans hf
        refine w_iconst dX23_take_22 (v := 1) (by decide) ?_
        refine w_goto 27 dX23_take_23 (by decide) ?_
        exact (pX23_take_b27 hd ih hf).to ⟨rfl, rfl, rfl, rfl, trivial⟩
def fX23_take (N : Nat) (this : Nat) (p0 : Nat) (h : eH) : Option (Unit × eH) :=
  fX23_take_b4 N N this p0 (0 : Int32) (0 : Int32) h
theorem pX23_take {w : eW} {d : Nat} (hd : 1 ≤ d) {N : Nat} {this : Nat} {p0 : Nat} {h : eH} {q} (hf : fX23_take N this p0 h = some q) : wm w d YX23_take [.ref this, .ref p0] h (e_is (e_rn c_V q)) := by
  obtain ⟨d, rfl⟩ : ∃ e, d = e + 1 := ⟨d - 1, by omega⟩
  show wp w (d + 1) YX23_take 0 [some (.ref this), some (.ref p0), none, none, none, none, none] [] h _
  unfold fX23_take at hf
  refine w_iconst dX23_take_0 (v := 0) (by decide) ?_
  refine w_istore_n dX23_take_1 rfl (by decide) (ls' := [some (.ref this), some (.ref p0), some (.int (0 : Int32)), none, none, none, none]) rfl ?_
  refine w_iconst dX23_take_2 (v := 0) (by decide) ?_
  refine w_istore_n dX23_take_3 rfl (by decide) (ls' := [some (.ref this), some (.ref p0), some (.int (0 : Int32)), some (.int (0 : Int32)), none, none, none]) rfl ?_
  exact (pX23_take_b4 hd N _ _ _ _ _ _ hf).to ⟨rfl, rfl, rfl, rfl, trivial⟩
abbrev cX21_takeAround : ByteArray := prog_3_method_6_code
def yX21_takeAround : MethodName := ⟨RX21, "takeAround", "()V"⟩
def YX21_takeAround : eY := (yX21_takeAround, cX21_takeAround, 1, none, [])
theorem mX21_takeAround : e_mv YX21_takeAround RX21 0 := ⟨q3726, qs163, q3727, by decide, by decide +kernel, (e_sig (by decide +kernel))⟩
theorem dX21_takeAround_0 : decode cX21_takeAround 0 = .ok (.aload_n 0, 1) := dc_42 (by decide +kernel)
theorem dX21_takeAround_1 : decode cX21_takeAround 1 = .ok (.getfield 21, 3) := dc_180 (a := 0) (b := 21) (n := 21) (by decide +kernel)
theorem dX21_takeAround_4 : decode cX21_takeAround 4 = .ok (.aload_n 0, 1) := dc_42 (by decide +kernel)
theorem dX21_takeAround_5 : decode cX21_takeAround 5 = .ok (.getfield 32, 3) := dc_180 (a := 0) (b := 32) (n := 32) (by decide +kernel)
theorem dX21_takeAround_8 : decode cX21_takeAround 8 = .ok (.iconst 0, 1) := dc_3 (by decide +kernel)
theorem dX21_takeAround_9 : decode cX21_takeAround 9 = .ok (.iaload, 1) := dc_46 (by decide +kernel)
theorem dX21_takeAround_10 : decode cX21_takeAround 10 = .ok (.i2l, 1) := dc_133 (by decide +kernel)
theorem dX21_takeAround_11 : decode cX21_takeAround 11 = .ok (.aload_n 0, 1) := dc_42 (by decide +kernel)
theorem dX21_takeAround_12 : decode cX21_takeAround 12 = .ok (.getfield 32, 3) := dc_180 (a := 0) (b := 32) (n := 32) (by decide +kernel)
theorem dX21_takeAround_15 : decode cX21_takeAround 15 = .ok (.iconst 4, 1) := dc_7 (by decide +kernel)
theorem dX21_takeAround_16 : decode cX21_takeAround 16 = .ok (.iaload, 1) := dc_46 (by decide +kernel)
theorem dX21_takeAround_17 : decode cX21_takeAround 17 = .ok (.i2l, 1) := dc_133 (by decide +kernel)
theorem dX21_takeAround_18 : decode cX21_takeAround 18 = .ok (.ladd, 1) := dc_97 (by decide +kernel)
theorem dX21_takeAround_19 : decode cX21_takeAround 19 = .ok (.putfield 102, 3) := dc_181 (a := 0) (b := 102) (n := 102) (by decide +kernel)
theorem dX21_takeAround_22 : decode cX21_takeAround 22 = .ok (.aload_n 0, 1) := dc_42 (by decide +kernel)
theorem dX21_takeAround_23 : decode cX21_takeAround 23 = .ok (.getfield 21, 3) := dc_180 (a := 0) (b := 21) (n := 21) (by decide +kernel)
theorem dX21_takeAround_26 : decode cX21_takeAround 26 = .ok (.aload_n 0, 1) := dc_42 (by decide +kernel)
theorem dX21_takeAround_27 : decode cX21_takeAround 27 = .ok (.getfield 32, 3) := dc_180 (a := 0) (b := 32) (n := 32) (by decide +kernel)
theorem dX21_takeAround_30 : decode cX21_takeAround 30 = .ok (.iconst 3, 1) := dc_6 (by decide +kernel)
theorem dX21_takeAround_31 : decode cX21_takeAround 31 = .ok (.iaload, 1) := dc_46 (by decide +kernel)
theorem dX21_takeAround_32 : decode cX21_takeAround 32 = .ok (.i2l, 1) := dc_133 (by decide +kernel)
theorem dX21_takeAround_33 : decode cX21_takeAround 33 = .ok (.aload_n 0, 1) := dc_42 (by decide +kernel)
theorem dX21_takeAround_34 : decode cX21_takeAround 34 = .ok (.getfield 32, 3) := dc_180 (a := 0) (b := 32) (n := 32) (by decide +kernel)
theorem dX21_takeAround_37 : decode cX21_takeAround 37 = .ok (.bipush 7, 2) := dc_16 (a := 7) (v := 7) (by decide +kernel)
theorem dX21_takeAround_39 : decode cX21_takeAround 39 = .ok (.iaload, 1) := dc_46 (by decide +kernel)
theorem dX21_takeAround_40 : decode cX21_takeAround 40 = .ok (.i2l, 1) := dc_133 (by decide +kernel)
theorem dX21_takeAround_41 : decode cX21_takeAround 41 = .ok (.ladd, 1) := dc_97 (by decide +kernel)
theorem dX21_takeAround_42 : decode cX21_takeAround 42 = .ok (.putfield 106, 3) := dc_181 (a := 0) (b := 106) (n := 106) (by decide +kernel)
theorem dX21_takeAround_45 : decode cX21_takeAround 45 = .ok (.aload_n 0, 1) := dc_42 (by decide +kernel)
theorem dX21_takeAround_46 : decode cX21_takeAround 46 = .ok (.getfield 21, 3) := dc_180 (a := 0) (b := 21) (n := 21) (by decide +kernel)
theorem dX21_takeAround_49 : decode cX21_takeAround 49 = .ok (.getfield 109, 3) := dc_180 (a := 0) (b := 109) (n := 109) (by decide +kernel)
theorem dX21_takeAround_52 : decode cX21_takeAround 52 = .ok (.lconst 0, 1) := dc_9 (by decide +kernel)
theorem dX21_takeAround_53 : decode cX21_takeAround 53 = .ok (.invokestatic 112, 3) := dc_184 (a := 0) (b := 112) (n := 112) (by decide +kernel)
theorem dX21_takeAround_56 : decode cX21_takeAround 56 = .ok (.aload_n 0, 1) := dc_42 (by decide +kernel)
theorem dX21_takeAround_57 : decode cX21_takeAround 57 = .ok (.getfield 21, 3) := dc_180 (a := 0) (b := 21) (n := 21) (by decide +kernel)
theorem dX21_takeAround_60 : decode cX21_takeAround 60 = .ok (.getfield 109, 3) := dc_180 (a := 0) (b := 109) (n := 109) (by decide +kernel)
theorem dX21_takeAround_63 : decode cX21_takeAround 63 = .ok (.aload_n 0, 1) := dc_42 (by decide +kernel)
theorem dX21_takeAround_64 : decode cX21_takeAround 64 = .ok (.getfield 32, 3) := dc_180 (a := 0) (b := 32) (n := 32) (by decide +kernel)
theorem dX21_takeAround_67 : decode cX21_takeAround 67 = .ok (.iconst 2, 1) := dc_5 (by decide +kernel)
theorem dX21_takeAround_68 : decode cX21_takeAround 68 = .ok (.iaload, 1) := dc_46 (by decide +kernel)
theorem dX21_takeAround_69 : decode cX21_takeAround 69 = .ok (.dup2, 1) := dc_92 (by decide +kernel)
theorem dX21_takeAround_70 : decode cX21_takeAround 70 = .ok (.laload, 1) := dc_47 (by decide +kernel)
theorem dX21_takeAround_71 : decode cX21_takeAround 71 = .ok (.aload_n 0, 1) := dc_42 (by decide +kernel)
theorem dX21_takeAround_72 : decode cX21_takeAround 72 = .ok (.getfield 32, 3) := dc_180 (a := 0) (b := 32) (n := 32) (by decide +kernel)
theorem dX21_takeAround_75 : decode cX21_takeAround 75 = .ok (.iconst 1, 1) := dc_4 (by decide +kernel)
theorem dX21_takeAround_76 : decode cX21_takeAround 76 = .ok (.iaload, 1) := dc_46 (by decide +kernel)
theorem dX21_takeAround_77 : decode cX21_takeAround 77 = .ok (.i2l, 1) := dc_133 (by decide +kernel)
theorem dX21_takeAround_78 : decode cX21_takeAround 78 = .ok (.ladd, 1) := dc_97 (by decide +kernel)
theorem dX21_takeAround_79 : decode cX21_takeAround 79 = .ok (.lastore, 1) := dc_80 (by decide +kernel)
theorem dX21_takeAround_80 : decode cX21_takeAround 80 = .ok (.aload_n 0, 1) := dc_42 (by decide +kernel)
theorem dX21_takeAround_81 : decode cX21_takeAround 81 = .ok (.getfield 21, 3) := dc_180 (a := 0) (b := 21) (n := 21) (by decide +kernel)
theorem dX21_takeAround_84 : decode cX21_takeAround 84 = .ok (.getfield 109, 3) := dc_180 (a := 0) (b := 109) (n := 109) (by decide +kernel)
theorem dX21_takeAround_87 : decode cX21_takeAround 87 = .ok (.aload_n 0, 1) := dc_42 (by decide +kernel)
theorem dX21_takeAround_88 : decode cX21_takeAround 88 = .ok (.getfield 32, 3) := dc_180 (a := 0) (b := 32) (n := 32) (by decide +kernel)
theorem dX21_takeAround_91 : decode cX21_takeAround 91 = .ok (.bipush 6, 2) := dc_16 (a := 6) (v := 6) (by decide +kernel)
theorem dX21_takeAround_93 : decode cX21_takeAround 93 = .ok (.iaload, 1) := dc_46 (by decide +kernel)
theorem dX21_takeAround_94 : decode cX21_takeAround 94 = .ok (.dup2, 1) := dc_92 (by decide +kernel)
theorem dX21_takeAround_95 : decode cX21_takeAround 95 = .ok (.laload, 1) := dc_47 (by decide +kernel)
theorem dX21_takeAround_96 : decode cX21_takeAround 96 = .ok (.aload_n 0, 1) := dc_42 (by decide +kernel)
theorem dX21_takeAround_97 : decode cX21_takeAround 97 = .ok (.getfield 32, 3) := dc_180 (a := 0) (b := 32) (n := 32) (by decide +kernel)
theorem dX21_takeAround_100 : decode cX21_takeAround 100 = .ok (.iconst 5, 1) := dc_8 (by decide +kernel)
theorem dX21_takeAround_101 : decode cX21_takeAround 101 = .ok (.iaload, 1) := dc_46 (by decide +kernel)
theorem dX21_takeAround_102 : decode cX21_takeAround 102 = .ok (.i2l, 1) := dc_133 (by decide +kernel)
theorem dX21_takeAround_103 : decode cX21_takeAround 103 = .ok (.ladd, 1) := dc_97 (by decide +kernel)
theorem dX21_takeAround_104 : decode cX21_takeAround 104 = .ok (.lastore, 1) := dc_80 (by decide +kernel)
theorem dX21_takeAround_105 : decode cX21_takeAround 105 = .ok (.return_, 1) := dc_177 (by decide +kernel)
theorem GX21_109 {w : eW} {d : Nat} {Y : eY} {pc : Nat} {ls : eL} {st : List Value} {h : eH} {Q : eO → eH → Prop} {a : Nat} {x : Nat} (hf : g_A 22 h a 5 = some x) (hd : decode Y.2.1 pc = .ok (.getfield 109, 3)) (hY : Y.1.cls = RX21) (kk : wp w d Y (pc + 3) ls (.ref x :: st) h Q) : wp w d Y pc ls (.ref a :: st) h Q := x_gAN (ci := 22) (k := 5) hf hd rfl (by decide) (by rw [hY]; exact q1291) kk
theorem SX21_102 {w : eW} {d : Nat} {Y : eY} {pc : Nat} {ls : eL} {st : List Value} {h : eH} {Q : eO → eH → Prop} {a : Nat} {h' : eH} {x : Int64} (hf : p_V 22 h a 6 (.long x) = some h') (hd : decode Y.2.1 pc = .ok (.putfield 102, 3)) (hY : Y.1.cls = RX21) (kk : wp w d Y (pc + 3) ls st h' Q) : wp w d Y pc ls (.long x :: .ref a :: st) h Q := x_pJN (ci := 22) (k := 6) hf hd rfl (by decide) (by rw [hY]; exact q1293) rfl rfl kk
theorem SX21_106 {w : eW} {d : Nat} {Y : eY} {pc : Nat} {ls : eL} {st : List Value} {h : eH} {Q : eO → eH → Prop} {a : Nat} {h' : eH} {x : Int64} (hf : p_V 22 h a 7 (.long x) = some h') (hd : decode Y.2.1 pc = .ok (.putfield 106, 3)) (hY : Y.1.cls = RX21) (kk : wp w d Y (pc + 3) ls st h' Q) : wp w d Y pc ls (.long x :: .ref a :: st) h Q := x_pJN (ci := 22) (k := 7) hf hd rfl (by decide) (by rw [hY]; exact q1295) rfl rfl kk
def fX21_takeAround (N : Nat) (this : Nat) (h : eH) : Option (Unit × eH) :=
  (g_A 20 h this 1).bind fun a1 =>
  (g_A 20 h this 4).bind fun a3 =>
  (r_I 100 h a3 (0 : Int32)).bind fun x5 =>
  (g_A 20 h this 4).bind fun a7 =>
  (r_I 100 h a7 (4 : Int32)).bind fun x9 =>
  (p_V 22 h a1 6 (.long ((x5).toInt64 + (x9).toInt64))).bind fun h11 =>
  (g_A 20 h11 this 1).bind fun a13 =>
  (g_A 20 h11 this 4).bind fun a15 =>
  (r_I 100 h11 a15 (3 : Int32)).bind fun x17 =>
  (g_A 20 h11 this 4).bind fun a19 =>
  (r_I 100 h11 a19 (7 : Int32)).bind fun x21 =>
  (p_V 22 h11 a13 7 (.long ((x17).toInt64 + (x21).toInt64))).bind fun h23 =>
  (g_A 20 h23 this 1).bind fun a25 =>
  (g_A 22 h23 a25 5).bind fun a27 =>
  (fJ0_fill_4 N a27 (0 : Int64) h23).bind fun q29 =>
  (g_A 20 q29.2 this 1).bind fun a30 =>
  (g_A 22 q29.2 a30 5).bind fun a32 =>
  (g_A 20 q29.2 this 4).bind fun a34 =>
  (r_I 100 q29.2 a34 (2 : Int32)).bind fun x36 =>
  (r_J q29.2 a32 x36).bind fun x38 =>
  (g_A 20 q29.2 this 4).bind fun a40 =>
  (r_I 100 q29.2 a40 (1 : Int32)).bind fun x42 =>
  (q_V 101 q29.2 a32 x36 (.long (x38 + (x42).toInt64))).bind fun h44 =>
  (g_A 20 h44 this 1).bind fun a46 =>
  (g_A 22 h44 a46 5).bind fun a48 =>
  (g_A 20 h44 this 4).bind fun a50 =>
  (r_I 100 h44 a50 (6 : Int32)).bind fun x52 =>
  (r_J h44 a48 x52).bind fun x54 =>
  (g_A 20 h44 this 4).bind fun a56 =>
  (r_I 100 h44 a56 (5 : Int32)).bind fun x58 =>
  (q_V 101 h44 a48 x52 (.long (x54 + (x58).toInt64))).bind fun h60 =>
  some ((), h60)
theorem pX21_takeAround {w : eW} {d : Nat} (hd : 1 ≤ d) {N : Nat} {this : Nat} {h : eH} {q} (hf : fX21_takeAround N this h = some q) : wm w d YX21_takeAround [.ref this] h (e_is (e_rn c_V q)) := by
  obtain ⟨d, rfl⟩ : ∃ e, d = e + 1 := ⟨d - 1, by omega⟩
  show wp w (d + 1) YX21_takeAround 0 [some (.ref this)] [] h _
  unfold fX21_takeAround at hf
  refine w_aload_n dX21_takeAround_0 rfl rfl ?_
  obtain ⟨a1, b2, hf⟩ := Option.bind_eq_some_iff.mp hf
  refine GX21_21 b2 dX21_takeAround_1 rfl ?_
  refine w_aload_n dX21_takeAround_4 rfl rfl ?_
  obtain ⟨a3, b4, hf⟩ := Option.bind_eq_some_iff.mp hf
  refine GX21_32 b4 dX21_takeAround_5 rfl ?_
  refine w_iconst dX21_takeAround_8 (v := 0) (by decide) ?_
  obtain ⟨x5, b6, hf⟩ := Option.bind_eq_some_iff.mp hf
  refine x_rI b6 dX21_takeAround_9 ?_
  refine w_i2l dX21_takeAround_10 ?_
  refine w_aload_n dX21_takeAround_11 rfl rfl ?_
  obtain ⟨a7, b8, hf⟩ := Option.bind_eq_some_iff.mp hf
  refine GX21_32 b8 dX21_takeAround_12 rfl ?_
  refine w_iconst dX21_takeAround_15 (v := 4) (by decide) ?_
  obtain ⟨x9, b10, hf⟩ := Option.bind_eq_some_iff.mp hf
  refine x_rI b10 dX21_takeAround_16 ?_
  refine w_i2l dX21_takeAround_17 ?_
  refine w_ladd dX21_takeAround_18 ?_
  obtain ⟨h11, b12, hf⟩ := Option.bind_eq_some_iff.mp hf
  refine SX21_102 b12 dX21_takeAround_19 rfl ?_
  refine w_aload_n dX21_takeAround_22 rfl rfl ?_
  obtain ⟨a13, b14, hf⟩ := Option.bind_eq_some_iff.mp hf
  refine GX21_21 b14 dX21_takeAround_23 rfl ?_
  refine w_aload_n dX21_takeAround_26 rfl rfl ?_
  obtain ⟨a15, b16, hf⟩ := Option.bind_eq_some_iff.mp hf
  refine GX21_32 b16 dX21_takeAround_27 rfl ?_
  refine w_iconst dX21_takeAround_30 (v := 3) (by decide) ?_
  obtain ⟨x17, b18, hf⟩ := Option.bind_eq_some_iff.mp hf
  refine x_rI b18 dX21_takeAround_31 ?_
  refine w_i2l dX21_takeAround_32 ?_
  refine w_aload_n dX21_takeAround_33 rfl rfl ?_
  obtain ⟨a19, b20, hf⟩ := Option.bind_eq_some_iff.mp hf
  refine GX21_32 b20 dX21_takeAround_34 rfl ?_
  refine w_bipush dX21_takeAround_37 (v := 7) (by decide) ?_
  obtain ⟨x21, b22, hf⟩ := Option.bind_eq_some_iff.mp hf
  refine x_rI b22 dX21_takeAround_39 ?_
  refine w_i2l dX21_takeAround_40 ?_
  refine w_ladd dX21_takeAround_41 ?_
  obtain ⟨h23, b24, hf⟩ := Option.bind_eq_some_iff.mp hf
  refine SX21_106 b24 dX21_takeAround_42 rfl ?_
  refine w_aload_n dX21_takeAround_45 rfl rfl ?_
  obtain ⟨a25, b26, hf⟩ := Option.bind_eq_some_iff.mp hf
  refine GX21_21 b26 dX21_takeAround_46 rfl ?_
  obtain ⟨a27, b28, hf⟩ := Option.bind_eq_some_iff.mp hf
  refine GX21_109 b28 dX21_takeAround_49 rfl ?_
  refine w_lconst dX21_takeAround_52 (v := 0) (by decide) ?_
  refine x_cnV hf (e_stS (Yc := YJ0_fill_4) (av := [.ref a27, .long (0 : Int64)]) (st := []) dX21_takeAround_53 q3728 mJ0_fill_4) mJ0_fill_4.2.2.1 mJ0_fill_4.2.2.2.2.1 (Nat.le_of_ble_eq_true rfl) (Nat.le_of_ble_eq_true rfl) (fun q hq => pJ0_fill_4 (by omega) hq) (fun q29 hf => ?_)
  refine w_aload_n dX21_takeAround_56 rfl rfl ?_
  obtain ⟨a30, b31, hf⟩ := Option.bind_eq_some_iff.mp hf
  refine GX21_21 b31 dX21_takeAround_57 rfl ?_
  obtain ⟨a32, b33, hf⟩ := Option.bind_eq_some_iff.mp hf
  refine GX21_109 b33 dX21_takeAround_60 rfl ?_
  refine w_aload_n dX21_takeAround_63 rfl rfl ?_
  obtain ⟨a34, b35, hf⟩ := Option.bind_eq_some_iff.mp hf
  refine GX21_32 b35 dX21_takeAround_64 rfl ?_
  refine w_iconst dX21_takeAround_67 (v := 2) (by decide) ?_
  obtain ⟨x36, b37, hf⟩ := Option.bind_eq_some_iff.mp hf
  refine x_rI b37 dX21_takeAround_68 ?_
  refine w_dup2_11 dX21_takeAround_69 rfl rfl ?_
  obtain ⟨x38, b39, hf⟩ := Option.bind_eq_some_iff.mp hf
  refine x_rJ b39 dX21_takeAround_70 ?_
  refine w_aload_n dX21_takeAround_71 rfl rfl ?_
  obtain ⟨a40, b41, hf⟩ := Option.bind_eq_some_iff.mp hf
  refine GX21_32 b41 dX21_takeAround_72 rfl ?_
  refine w_iconst dX21_takeAround_75 (v := 1) (by decide) ?_
  obtain ⟨x42, b43, hf⟩ := Option.bind_eq_some_iff.mp hf
  refine x_rI b43 dX21_takeAround_76 ?_
  refine w_i2l dX21_takeAround_77 ?_
  refine w_ladd dX21_takeAround_78 ?_
  obtain ⟨h44, b45, hf⟩ := Option.bind_eq_some_iff.mp hf
  refine x_qJ b45 dX21_takeAround_79 ?_
  refine w_aload_n dX21_takeAround_80 rfl rfl ?_
  obtain ⟨a46, b47, hf⟩ := Option.bind_eq_some_iff.mp hf
  refine GX21_21 b47 dX21_takeAround_81 rfl ?_
  obtain ⟨a48, b49, hf⟩ := Option.bind_eq_some_iff.mp hf
  refine GX21_109 b49 dX21_takeAround_84 rfl ?_
  refine w_aload_n dX21_takeAround_87 rfl rfl ?_
  obtain ⟨a50, b51, hf⟩ := Option.bind_eq_some_iff.mp hf
  refine GX21_32 b51 dX21_takeAround_88 rfl ?_
  refine w_bipush dX21_takeAround_91 (v := 6) (by decide) ?_
  obtain ⟨x52, b53, hf⟩ := Option.bind_eq_some_iff.mp hf
  refine x_rI b53 dX21_takeAround_93 ?_
  refine w_dup2_11 dX21_takeAround_94 rfl rfl ?_
  obtain ⟨x54, b55, hf⟩ := Option.bind_eq_some_iff.mp hf
  refine x_rJ b55 dX21_takeAround_95 ?_
  refine w_aload_n dX21_takeAround_96 rfl rfl ?_
  obtain ⟨a56, b57, hf⟩ := Option.bind_eq_some_iff.mp hf
  refine GX21_32 b57 dX21_takeAround_97 rfl ?_
  refine w_iconst dX21_takeAround_100 (v := 5) (by decide) ?_
  obtain ⟨x58, b59, hf⟩ := Option.bind_eq_some_iff.mp hf
  refine x_rI b59 dX21_takeAround_101 ?_
  refine w_i2l dX21_takeAround_102 ?_
  refine w_ladd dX21_takeAround_103 ?_
  obtain ⟨h60, b61, hf⟩ := Option.bind_eq_some_iff.mp hf
  refine x_qJ b61 dX21_takeAround_104 ?_
  cases hf
  exact w_vret dX21_takeAround_105 rfl rfl
abbrev cX25_add : ByteArray := prog_18_method_3_code
def yX25_add : MethodName := ⟨RX25, "add", "(IIIJI)I"⟩
def YX25_add : eY := (yX25_add, cX25_add, 7, (Option.some FieldType.int), [])
theorem mX25_add : e_mv YX25_add RX25 5 := ⟨q3748, q3749, q3750, by decide, by decide +kernel, (e_sig (by decide +kernel))⟩
theorem dX25_add_0 : decode cX25_add 0 = .ok (.aload_n 0, 1) := dc_42 (by decide +kernel)
theorem dX25_add_1 : decode cX25_add 1 = .ok (.getfield 9, 3) := dc_180 (a := 0) (b := 9) (n := 9) (by decide +kernel)
theorem dX25_add_4 : decode cX25_add 4 = .ok (.aload_n 0, 1) := dc_42 (by decide +kernel)
theorem dX25_add_5 : decode cX25_add 5 = .ok (.getfield 32, 3) := dc_180 (a := 0) (b := 32) (n := 32) (by decide +kernel)
theorem dX25_add_8 : decode cX25_add 8 = .ok (.iload_n 1, 1) := dc_27 (by decide +kernel)
theorem dX25_add_9 : decode cX25_add 9 = .ok (.iastore, 1) := dc_79 (by decide +kernel)
theorem dX25_add_10 : decode cX25_add 10 = .ok (.aload_n 0, 1) := dc_42 (by decide +kernel)
theorem dX25_add_11 : decode cX25_add 11 = .ok (.getfield 15, 3) := dc_180 (a := 0) (b := 15) (n := 15) (by decide +kernel)
theorem dX25_add_14 : decode cX25_add 14 = .ok (.aload_n 0, 1) := dc_42 (by decide +kernel)
theorem dX25_add_15 : decode cX25_add 15 = .ok (.getfield 32, 3) := dc_180 (a := 0) (b := 32) (n := 32) (by decide +kernel)
theorem dX25_add_18 : decode cX25_add 18 = .ok (.iload_n 2, 1) := dc_28 (by decide +kernel)
theorem dX25_add_19 : decode cX25_add 19 = .ok (.iastore, 1) := dc_79 (by decide +kernel)
theorem dX25_add_20 : decode cX25_add 20 = .ok (.aload_n 0, 1) := dc_42 (by decide +kernel)
theorem dX25_add_21 : decode cX25_add 21 = .ok (.getfield 18, 3) := dc_180 (a := 0) (b := 18) (n := 18) (by decide +kernel)
theorem dX25_add_24 : decode cX25_add 24 = .ok (.aload_n 0, 1) := dc_42 (by decide +kernel)
theorem dX25_add_25 : decode cX25_add 25 = .ok (.getfield 32, 3) := dc_180 (a := 0) (b := 32) (n := 32) (by decide +kernel)
theorem dX25_add_28 : decode cX25_add 28 = .ok (.iload_n 3, 1) := dc_29 (by decide +kernel)
theorem dX25_add_29 : decode cX25_add 29 = .ok (.i2b, 1) := dc_145 (by decide +kernel)
theorem dX25_add_30 : decode cX25_add 30 = .ok (.bastore, 1) := dc_84 (by decide +kernel)
theorem dX25_add_31 : decode cX25_add 31 = .ok (.aload_n 0, 1) := dc_42 (by decide +kernel)
theorem dX25_add_32 : decode cX25_add 32 = .ok (.getfield 22, 3) := dc_180 (a := 0) (b := 22) (n := 22) (by decide +kernel)
theorem dX25_add_35 : decode cX25_add 35 = .ok (.aload_n 0, 1) := dc_42 (by decide +kernel)
theorem dX25_add_36 : decode cX25_add 36 = .ok (.getfield 32, 3) := dc_180 (a := 0) (b := 32) (n := 32) (by decide +kernel)
theorem dX25_add_39 : decode cX25_add 39 = .ok (.lload 4, 2) := dc_22 (a := 4) (by decide +kernel)
theorem dX25_add_41 : decode cX25_add 41 = .ok (.lastore, 1) := dc_80 (by decide +kernel)
theorem dX25_add_42 : decode cX25_add 42 = .ok (.aload_n 0, 1) := dc_42 (by decide +kernel)
theorem dX25_add_43 : decode cX25_add 43 = .ok (.getfield 26, 3) := dc_180 (a := 0) (b := 26) (n := 26) (by decide +kernel)
theorem dX25_add_46 : decode cX25_add 46 = .ok (.aload_n 0, 1) := dc_42 (by decide +kernel)
theorem dX25_add_47 : decode cX25_add 47 = .ok (.getfield 32, 3) := dc_180 (a := 0) (b := 32) (n := 32) (by decide +kernel)
theorem dX25_add_50 : decode cX25_add 50 = .ok (.iload 6, 2) := dc_21 (a := 6) (by decide +kernel)
theorem dX25_add_52 : decode cX25_add 52 = .ok (.iastore, 1) := dc_79 (by decide +kernel)
theorem dX25_add_53 : decode cX25_add 53 = .ok (.aload_n 0, 1) := dc_42 (by decide +kernel)
theorem dX25_add_54 : decode cX25_add 54 = .ok (.getfield 29, 3) := dc_180 (a := 0) (b := 29) (n := 29) (by decide +kernel)
theorem dX25_add_57 : decode cX25_add 57 = .ok (.aload_n 0, 1) := dc_42 (by decide +kernel)
theorem dX25_add_58 : decode cX25_add 58 = .ok (.getfield 32, 3) := dc_180 (a := 0) (b := 32) (n := 32) (by decide +kernel)
theorem dX25_add_61 : decode cX25_add 61 = .ok (.aload_n 0, 1) := dc_42 (by decide +kernel)
theorem dX25_add_62 : decode cX25_add 62 = .ok (.getfield 36, 3) := dc_180 (a := 0) (b := 36) (n := 36) (by decide +kernel)
theorem dX25_add_65 : decode cX25_add 65 = .ok (.iastore, 1) := dc_79 (by decide +kernel)
theorem dX25_add_66 : decode cX25_add 66 = .ok (.aload_n 0, 1) := dc_42 (by decide +kernel)
theorem dX25_add_67 : decode cX25_add 67 = .ok (.aload_n 0, 1) := dc_42 (by decide +kernel)
theorem dX25_add_68 : decode cX25_add 68 = .ok (.getfield 32, 3) := dc_180 (a := 0) (b := 32) (n := 32) (by decide +kernel)
theorem dX25_add_71 : decode cX25_add 71 = .ok (.putfield 36, 3) := dc_181 (a := 0) (b := 36) (n := 36) (by decide +kernel)
theorem dX25_add_74 : decode cX25_add 74 = .ok (.aload_n 0, 1) := dc_42 (by decide +kernel)
theorem dX25_add_75 : decode cX25_add 75 = .ok (.dup, 1) := dc_89 (by decide +kernel)
theorem dX25_add_76 : decode cX25_add 76 = .ok (.getfield 32, 3) := dc_180 (a := 0) (b := 32) (n := 32) (by decide +kernel)
theorem dX25_add_79 : decode cX25_add 79 = .ok (.dup_x1, 1) := dc_90 (by decide +kernel)
theorem dX25_add_80 : decode cX25_add 80 = .ok (.iconst 1, 1) := dc_4 (by decide +kernel)
theorem dX25_add_81 : decode cX25_add 81 = .ok (.iadd, 1) := dc_96 (by decide +kernel)
theorem dX25_add_82 : decode cX25_add 82 = .ok (.putfield 32, 3) := dc_181 (a := 0) (b := 32) (n := 32) (by decide +kernel)
theorem dX25_add_85 : decode cX25_add 85 = .ok (.ireturn, 1) := dc_172 (by decide +kernel)
theorem GX25_15 {w : eW} {d : Nat} {Y : eY} {pc : Nat} {ls : eL} {st : List Value} {h : eH} {Q : eO → eH → Prop} {a : Nat} {x : Nat} (hf : g_A 24 h a 1 = some x) (hd : decode Y.2.1 pc = .ok (.getfield 15, 3)) (hY : Y.1.cls = RX25) (kk : wp w d Y (pc + 3) ls (.ref x :: st) h Q) : wp w d Y pc ls (.ref a :: st) h Q := x_gA (ci := 24) (k := 1) hf hd rfl (by decide) (by rw [hY]; exact q1344) kk
theorem GX25_18 {w : eW} {d : Nat} {Y : eY} {pc : Nat} {ls : eL} {st : List Value} {h : eH} {Q : eO → eH → Prop} {a : Nat} {x : Nat} (hf : g_A 24 h a 2 = some x) (hd : decode Y.2.1 pc = .ok (.getfield 18, 3)) (hY : Y.1.cls = RX25) (kk : wp w d Y (pc + 3) ls (.ref x :: st) h Q) : wp w d Y pc ls (.ref a :: st) h Q := x_gA (ci := 24) (k := 2) hf hd rfl (by decide) (by rw [hY]; exact q1347) kk
theorem GX25_22 {w : eW} {d : Nat} {Y : eY} {pc : Nat} {ls : eL} {st : List Value} {h : eH} {Q : eO → eH → Prop} {a : Nat} {x : Nat} (hf : g_A 24 h a 3 = some x) (hd : decode Y.2.1 pc = .ok (.getfield 22, 3)) (hY : Y.1.cls = RX25) (kk : wp w d Y (pc + 3) ls (.ref x :: st) h Q) : wp w d Y pc ls (.ref a :: st) h Q := x_gA (ci := 24) (k := 3) hf hd rfl (by decide) (by rw [hY]; exact q1349) kk
theorem GX25_26 {w : eW} {d : Nat} {Y : eY} {pc : Nat} {ls : eL} {st : List Value} {h : eH} {Q : eO → eH → Prop} {a : Nat} {x : Nat} (hf : g_A 24 h a 4 = some x) (hd : decode Y.2.1 pc = .ok (.getfield 26, 3)) (hY : Y.1.cls = RX25) (kk : wp w d Y (pc + 3) ls (.ref x :: st) h Q) : wp w d Y pc ls (.ref a :: st) h Q := x_gA (ci := 24) (k := 4) hf hd rfl (by decide) (by rw [hY]; exact q1351) kk
theorem GX25_29 {w : eW} {d : Nat} {Y : eY} {pc : Nat} {ls : eL} {st : List Value} {h : eH} {Q : eO → eH → Prop} {a : Nat} {x : Nat} (hf : g_A 24 h a 5 = some x) (hd : decode Y.2.1 pc = .ok (.getfield 29, 3)) (hY : Y.1.cls = RX25) (kk : wp w d Y (pc + 3) ls (.ref x :: st) h Q) : wp w d Y pc ls (.ref a :: st) h Q := x_gA (ci := 24) (k := 5) hf hd rfl (by decide) (by rw [hY]; exact q1353) kk
theorem GX25_32 {w : eW} {d : Nat} {Y : eY} {pc : Nat} {ls : eL} {st : List Value} {h : eH} {Q : eO → eH → Prop} {a : Nat} {x : Int32} (hf : g_I 24 h a 6 = some x) (hd : decode Y.2.1 pc = .ok (.getfield 32, 3)) (hY : Y.1.cls = RX25) (kk : wp w d Y (pc + 3) ls (.int x :: st) h Q) : wp w d Y pc ls (.ref a :: st) h Q := x_gI (ci := 24) (k := 6) hf hd rfl (by decide) (by rw [hY]; exact q1355) kk
theorem GX25_36 {w : eW} {d : Nat} {Y : eY} {pc : Nat} {ls : eL} {st : List Value} {h : eH} {Q : eO → eH → Prop} {a : Nat} {x : Int32} (hf : g_I 24 h a 7 = some x) (hd : decode Y.2.1 pc = .ok (.getfield 36, 3)) (hY : Y.1.cls = RX25) (kk : wp w d Y (pc + 3) ls (.int x :: st) h Q) : wp w d Y pc ls (.ref a :: st) h Q := x_gI (ci := 24) (k := 7) hf hd rfl (by decide) (by rw [hY]; exact q1358) kk
theorem GX25_9 {w : eW} {d : Nat} {Y : eY} {pc : Nat} {ls : eL} {st : List Value} {h : eH} {Q : eO → eH → Prop} {a : Nat} {x : Nat} (hf : g_A 24 h a 0 = some x) (hd : decode Y.2.1 pc = .ok (.getfield 9, 3)) (hY : Y.1.cls = RX25) (kk : wp w d Y (pc + 3) ls (.ref x :: st) h Q) : wp w d Y pc ls (.ref a :: st) h Q := x_gA (ci := 24) (k := 0) hf hd rfl (by decide) (by rw [hY]; exact q1341) kk
theorem SX25_32 {w : eW} {d : Nat} {Y : eY} {pc : Nat} {ls : eL} {st : List Value} {h : eH} {Q : eO → eH → Prop} {a : Nat} {h' : eH} {x : Int32} (hf : p_V 24 h a 6 (.int x) = some h') (hd : decode Y.2.1 pc = .ok (.putfield 32, 3)) (hY : Y.1.cls = RX25) (kk : wp w d Y (pc + 3) ls st h' Q) : wp w d Y pc ls (.int x :: .ref a :: st) h Q := x_pI (ci := 24) (k := 6) hf hd rfl (by decide) (by rw [hY]; exact q1355) rfl rfl kk
theorem SX25_36 {w : eW} {d : Nat} {Y : eY} {pc : Nat} {ls : eL} {st : List Value} {h : eH} {Q : eO → eH → Prop} {a : Nat} {h' : eH} {x : Int32} (hf : p_V 24 h a 7 (.int x) = some h') (hd : decode Y.2.1 pc = .ok (.putfield 36, 3)) (hY : Y.1.cls = RX25) (kk : wp w d Y (pc + 3) ls st h' Q) : wp w d Y pc ls (.int x :: .ref a :: st) h Q := x_pI (ci := 24) (k := 7) hf hd rfl (by decide) (by rw [hY]; exact q1358) rfl rfl kk
def fX25_add (this : Nat) (p0 : Int32) (p1 : Int32) (p2 : Int32) (p3 : Int64) (p4 : Int32) (h : eH) : Option (Int32 × eH) :=
  (g_A 24 h this 0).bind fun a1 =>
  (g_I 24 h this 6).bind fun x3 =>
  (q_V 100 h a1 x3 (.int p0)).bind fun h5 =>
  (g_A 24 h5 this 1).bind fun a7 =>
  (g_I 24 h5 this 6).bind fun x9 =>
  (q_V 100 h5 a7 x9 (.int p1)).bind fun h11 =>
  (g_A 24 h11 this 2).bind fun a13 =>
  (g_I 24 h11 this 6).bind fun x15 =>
  (q_V 102 h11 a13 x15 (.int ((p2).toInt8.toInt32).toInt8.toInt32)).bind fun h17 =>
  (g_A 24 h17 this 3).bind fun a19 =>
  (g_I 24 h17 this 6).bind fun x21 =>
  (q_V 101 h17 a19 x21 (.long p3)).bind fun h23 =>
  (g_A 24 h23 this 4).bind fun a25 =>
  (g_I 24 h23 this 6).bind fun x27 =>
  (q_V 100 h23 a25 x27 (.int p4)).bind fun h29 =>
  (g_A 24 h29 this 5).bind fun a31 =>
  (g_I 24 h29 this 6).bind fun x33 =>
  (g_I 24 h29 this 7).bind fun x35 =>
  (q_V 100 h29 a31 x33 (.int x35)).bind fun h37 =>
  (g_I 24 h37 this 6).bind fun x39 =>
  (p_V 24 h37 this 7 (.int x39)).bind fun h41 =>
  (g_I 24 h41 this 6).bind fun x43 =>
  (p_V 24 h41 this 6 (.int (x43 + (1 : Int32)))).bind fun h45 =>
  some (x43, h45)
theorem pX25_add {w : eW} {d : Nat} (hd : 0 ≤ d) {this : Nat} {p0 : Int32} {p1 : Int32} {p2 : Int32} {p3 : Int64} {p4 : Int32} {h : eH} {q} (hf : fX25_add this p0 p1 p2 p3 p4 h = some q) : wm w d YX25_add [.ref this, .int p0, .int p1, .int p2, .long p3, .int p4] h (e_is (e_rn c_I q)) := by
  show wp w d YX25_add 0 [some (.ref this), some (.int p0), some (.int p1), some (.int p2), some (.long p3), none, some (.int p4)] [] h _
  unfold fX25_add at hf
  refine w_aload_n dX25_add_0 rfl rfl ?_
  obtain ⟨a1, b2, hf⟩ := Option.bind_eq_some_iff.mp hf
  refine GX25_9 b2 dX25_add_1 rfl ?_
  refine w_aload_n dX25_add_4 rfl rfl ?_
  obtain ⟨x3, b4, hf⟩ := Option.bind_eq_some_iff.mp hf
  refine GX25_32 b4 dX25_add_5 rfl ?_
  refine w_iload_n dX25_add_8 rfl rfl ?_
  obtain ⟨h5, b6, hf⟩ := Option.bind_eq_some_iff.mp hf
  refine x_qI b6 dX25_add_9 ?_
  refine w_aload_n dX25_add_10 rfl rfl ?_
  obtain ⟨a7, b8, hf⟩ := Option.bind_eq_some_iff.mp hf
  refine GX25_15 b8 dX25_add_11 rfl ?_
  refine w_aload_n dX25_add_14 rfl rfl ?_
  obtain ⟨x9, b10, hf⟩ := Option.bind_eq_some_iff.mp hf
  refine GX25_32 b10 dX25_add_15 rfl ?_
  refine w_iload_n dX25_add_18 rfl rfl ?_
  obtain ⟨h11, b12, hf⟩ := Option.bind_eq_some_iff.mp hf
  refine x_qI b12 dX25_add_19 ?_
  refine w_aload_n dX25_add_20 rfl rfl ?_
  obtain ⟨a13, b14, hf⟩ := Option.bind_eq_some_iff.mp hf
  refine GX25_18 b14 dX25_add_21 rfl ?_
  refine w_aload_n dX25_add_24 rfl rfl ?_
  obtain ⟨x15, b16, hf⟩ := Option.bind_eq_some_iff.mp hf
  refine GX25_32 b16 dX25_add_25 rfl ?_
  refine w_iload_n dX25_add_28 rfl rfl ?_
  refine w_i2b dX25_add_29 ?_
  obtain ⟨h17, b18, hf⟩ := Option.bind_eq_some_iff.mp hf
  refine x_qB b18 dX25_add_30 ?_
  refine w_aload_n dX25_add_31 rfl rfl ?_
  obtain ⟨a19, b20, hf⟩ := Option.bind_eq_some_iff.mp hf
  refine GX25_22 b20 dX25_add_32 rfl ?_
  refine w_aload_n dX25_add_35 rfl rfl ?_
  obtain ⟨x21, b22, hf⟩ := Option.bind_eq_some_iff.mp hf
  refine GX25_32 b22 dX25_add_36 rfl ?_
  refine w_lload dX25_add_39 rfl ?_
  obtain ⟨h23, b24, hf⟩ := Option.bind_eq_some_iff.mp hf
  refine x_qJ b24 dX25_add_41 ?_
  refine w_aload_n dX25_add_42 rfl rfl ?_
  obtain ⟨a25, b26, hf⟩ := Option.bind_eq_some_iff.mp hf
  refine GX25_26 b26 dX25_add_43 rfl ?_
  refine w_aload_n dX25_add_46 rfl rfl ?_
  obtain ⟨x27, b28, hf⟩ := Option.bind_eq_some_iff.mp hf
  refine GX25_32 b28 dX25_add_47 rfl ?_
  refine w_iload dX25_add_50 rfl ?_
  obtain ⟨h29, b30, hf⟩ := Option.bind_eq_some_iff.mp hf
  refine x_qI b30 dX25_add_52 ?_
  refine w_aload_n dX25_add_53 rfl rfl ?_
  obtain ⟨a31, b32, hf⟩ := Option.bind_eq_some_iff.mp hf
  refine GX25_29 b32 dX25_add_54 rfl ?_
  refine w_aload_n dX25_add_57 rfl rfl ?_
  obtain ⟨x33, b34, hf⟩ := Option.bind_eq_some_iff.mp hf
  refine GX25_32 b34 dX25_add_58 rfl ?_
  refine w_aload_n dX25_add_61 rfl rfl ?_
  obtain ⟨x35, b36, hf⟩ := Option.bind_eq_some_iff.mp hf
  refine GX25_36 b36 dX25_add_62 rfl ?_
  obtain ⟨h37, b38, hf⟩ := Option.bind_eq_some_iff.mp hf
  refine x_qI b38 dX25_add_65 ?_
  refine w_aload_n dX25_add_66 rfl rfl ?_
  refine w_aload_n dX25_add_67 rfl rfl ?_
  obtain ⟨x39, b40, hf⟩ := Option.bind_eq_some_iff.mp hf
  refine GX25_32 b40 dX25_add_68 rfl ?_
  obtain ⟨h41, b42, hf⟩ := Option.bind_eq_some_iff.mp hf
  refine SX25_36 b42 dX25_add_71 rfl ?_
  refine w_aload_n dX25_add_74 rfl rfl ?_
  refine w_dup dX25_add_75 rfl ?_
  obtain ⟨x43, b44, hf⟩ := Option.bind_eq_some_iff.mp hf
  refine GX25_32 b44 dX25_add_76 rfl ?_
  refine w_dup_x1 dX25_add_79 rfl rfl ?_
  refine w_iconst dX25_add_80 (v := 1) (by decide) ?_
  refine w_iadd dX25_add_81 ?_
  obtain ⟨h45, b46, hf⟩ := Option.bind_eq_some_iff.mp hf
  refine SX25_32 b46 dX25_add_82 rfl ?_
  cases hf
  exact w_iret dX25_add_85 rfl rfl rfl
abbrev cX25_begin : ByteArray := prog_18_method_2_code
def yX25_begin : MethodName := ⟨RX25, "begin", "()V"⟩
def YX25_begin : eY := (yX25_begin, cX25_begin, 2, none, [])
theorem mX25_begin : e_mv YX25_begin RX25 0 := ⟨q3744, q3745, q3746, by decide, by decide +kernel, (e_sig (by decide +kernel))⟩
theorem dX25_begin_0 : decode cX25_begin 0 = .ok (.aload_n 0, 1) := dc_42 (by decide +kernel)
theorem dX25_begin_1 : decode cX25_begin 1 = .ok (.iconst 0, 1) := dc_3 (by decide +kernel)
theorem dX25_begin_2 : decode cX25_begin 2 = .ok (.putfield 32, 3) := dc_181 (a := 0) (b := 32) (n := 32) (by decide +kernel)
theorem dX25_begin_5 : decode cX25_begin 5 = .ok (.aload_n 0, 1) := dc_42 (by decide +kernel)
theorem dX25_begin_6 : decode cX25_begin 6 = .ok (.iconst (-1), 1) := dc_2 (by decide +kernel)
theorem dX25_begin_7 : decode cX25_begin 7 = .ok (.putfield 36, 3) := dc_181 (a := 0) (b := 36) (n := 36) (by decide +kernel)
theorem dX25_begin_10 : decode cX25_begin 10 = .ok (.aload_n 0, 1) := dc_42 (by decide +kernel)
theorem dX25_begin_11 : decode cX25_begin 11 = .ok (.iconst (-1), 1) := dc_2 (by decide +kernel)
theorem dX25_begin_12 : decode cX25_begin 12 = .ok (.iconst 0, 1) := dc_3 (by decide +kernel)
theorem dX25_begin_13 : decode cX25_begin 13 = .ok (.iconst 2, 1) := dc_5 (by decide +kernel)
theorem dX25_begin_14 : decode cX25_begin 14 = .ok (.lconst 0, 1) := dc_9 (by decide +kernel)
theorem dX25_begin_15 : decode cX25_begin 15 = .ok (.iconst (-1), 1) := dc_2 (by decide +kernel)
theorem dX25_begin_16 : decode cX25_begin 16 = .ok (.invokevirtual 39, 3) := dc_182 (a := 0) (b := 39) (n := 39) (by decide +kernel)
theorem dX25_begin_19 : decode cX25_begin 19 = .ok (.istore_n 1, 1) := dc_60 (by decide +kernel)
theorem dX25_begin_20 : decode cX25_begin 20 = .ok (.return_, 1) := dc_177 (by decide +kernel)
def fX25_begin (this : Nat) (h : eH) : Option (Unit × eH) :=
  (p_V 24 h this 6 (.int (0 : Int32))).bind fun h1 =>
  (p_V 24 h1 this 7 (.int (-1 : Int32))).bind fun h3 =>
  (k_ok 24 h3 this).bind fun _ =>
  (fX25_add this (-1 : Int32) (0 : Int32) (2 : Int32) (0 : Int64) (-1 : Int32) h3).bind fun q6 =>
  some ((), q6.2)
theorem pX25_begin {w : eW} {d : Nat} (hd : 1 ≤ d) {this : Nat} {h : eH} {q} (hf : fX25_begin this h = some q) : wm w d YX25_begin [.ref this] h (e_is (e_rn c_V q)) := by
  obtain ⟨d, rfl⟩ : ∃ e, d = e + 1 := ⟨d - 1, by omega⟩
  show wp w (d + 1) YX25_begin 0 [some (.ref this), none] [] h _
  unfold fX25_begin at hf
  refine w_aload_n dX25_begin_0 rfl rfl ?_
  refine w_iconst dX25_begin_1 (v := 0) (by decide) ?_
  obtain ⟨h1, b2, hf⟩ := Option.bind_eq_some_iff.mp hf
  refine SX25_32 b2 dX25_begin_2 rfl ?_
  refine w_aload_n dX25_begin_5 rfl rfl ?_
  refine w_iconst dX25_begin_6 (v := -1) (by decide) ?_
  obtain ⟨h3, b4, hf⟩ := Option.bind_eq_some_iff.mp hf
  refine SX25_36 b4 dX25_begin_7 rfl ?_
  refine w_aload_n dX25_begin_10 rfl rfl ?_
  refine w_iconst dX25_begin_11 (v := -1) (by decide) ?_
  refine w_iconst dX25_begin_12 (v := 0) (by decide) ?_
  refine w_iconst dX25_begin_13 (v := 2) (by decide) ?_
  refine w_lconst dX25_begin_14 (v := 0) (by decide) ?_
  refine w_iconst dX25_begin_15 (v := -1) (by decide) ?_
  obtain ⟨_, b5, hf⟩ := Option.bind_eq_some_iff.mp hf
  refine x_cnI hf (e_stV (Yc := YX25_add) (ci := 24) (av := [.int (-1 : Int32), .int (0 : Int32), .int (2 : Int32), .long (0 : Int64), .int (-1 : Int32)]) (st := []) dX25_begin_16 q3747 mX25_add rfl (k_ok_some b5).1 (k_ok_some b5).2) mX25_add.2.2.1 mX25_add.2.2.2.2.1 (Nat.le_of_ble_eq_true rfl) (Nat.le_of_ble_eq_true rfl) (fun q hq => pX25_add (by omega) hq) (fun q6 hf => ?_)
  refine w_istore_n dX25_begin_19 rfl (by decide) (ls' := [some (.ref this), some (.int q6.1)]) rfl ?_
  cases hf
  exact w_vret dX25_begin_20 rfl rfl
abbrev cX24_clear : ByteArray := prog_24_method_10_code
def yX24_clear : MethodName := ⟨RX24, "clear", "()V"⟩
def YX24_clear : eY := (yX24_clear, cX24_clear, 2, none, [])
theorem mX24_clear : e_mv YX24_clear RX24 0 := ⟨q3753, qs166, q3754, by decide, by decide +kernel, (e_sig (by decide +kernel))⟩
theorem dX24_clear_0 : decode cX24_clear 0 = .ok (.iconst 0, 1) := dc_3 (by decide +kernel)
theorem dX24_clear_1 : decode cX24_clear 1 = .ok (.istore_n 1, 1) := dc_60 (by decide +kernel)
theorem dX24_clear_2 : decode cX24_clear 2 = .ok (.iload_n 1, 1) := dc_27 (by decide +kernel)
theorem dX24_clear_3 : decode cX24_clear 3 = .ok (.aload_n 0, 1) := dc_42 (by decide +kernel)
theorem dX24_clear_4 : decode cX24_clear 4 = .ok (.getfield 25, 3) := dc_180 (a := 0) (b := 25) (n := 25) (by decide +kernel)
theorem dX24_clear_7 : decode cX24_clear 7 = .ok (.arraylength, 1) := dc_190 (by decide +kernel)
theorem dX24_clear_8 : decode cX24_clear 8 = .ok (.if_icmp .ge 16, 3) := dc_162 (a := 0) (b := 16) (v := 16) (by decide +kernel)
theorem dX24_clear_11 : decode cX24_clear 11 = .ok (.aload_n 0, 1) := dc_42 (by decide +kernel)
theorem dX24_clear_12 : decode cX24_clear 12 = .ok (.getfield 25, 3) := dc_180 (a := 0) (b := 25) (n := 25) (by decide +kernel)
theorem dX24_clear_15 : decode cX24_clear 15 = .ok (.iload_n 1, 1) := dc_27 (by decide +kernel)
theorem dX24_clear_16 : decode cX24_clear 16 = .ok (.iconst (-1), 1) := dc_2 (by decide +kernel)
theorem dX24_clear_17 : decode cX24_clear 17 = .ok (.iastore, 1) := dc_79 (by decide +kernel)
theorem dX24_clear_18 : decode cX24_clear 18 = .ok (.iinc 1 1, 3) := dc_132 (a := 1) (b := 1) (v := 1) (by decide +kernel)
theorem dX24_clear_21 : decode cX24_clear 21 = .ok (.goto (-19), 3) := dc_167 (a := 255) (b := 237) (v := -19) (by decide +kernel)
theorem dX24_clear_24 : decode cX24_clear 24 = .ok (.return_, 1) := dc_177 (by decide +kernel)
def fX24_clear_b2 (N : Nat) : Nat → Nat → Int32 → eH → Option (Unit × eH)
  | 0, _, _, _ => none
  | n + 1, l0, l1, h =>
    (g_A 23 h l0 6).bind fun a1 =>
    (a_len h a1).bind fun x3 =>
    if x3 ≤ l1 then
      some ((), h)
    else
      (g_A 23 h l0 6).bind fun a6 =>
      (q_V 100 h a6 l1 (.int (-1 : Int32))).bind fun h8 =>
      fX24_clear_b2 N n l0 (l1 + (1 : Int32)) h8
theorem pX24_clear_b2 {w : eW} {d : Nat} (hd : 0 ≤ d) {N : Nat} : ∀ (n : Nat) l0 l1 h q, fX24_clear_b2 N n l0 l1 h = some q → wp w d YX24_clear 2 [some (.ref l0), some (.int l1)] [] h (e_is (e_rn c_V q)) := by
  intro n
  induction n with
  | zero => intro l0 l1 h q hf; simp [fX24_clear_b2] at hf
  | succ n ih =>
    intro l0 l1 h q hf
    rw [fX24_clear_b2] at hf
    refine w_iload_n dX24_clear_2 rfl rfl ?_
    refine w_aload_n dX24_clear_3 rfl rfl ?_
    obtain ⟨a1, b2, hf⟩ := Option.bind_eq_some_iff.mp hf
    refine GX24_25 b2 dX24_clear_4 rfl ?_
    obtain ⟨x3, b4, hf⟩ := Option.bind_eq_some_iff.mp hf
    refine x_len b4 dX24_clear_7 ?_
    refine w_icmp_ge 24 dX24_clear_8 (by decide) (fun c5 => ?_) (fun c5 => ?_)
    · replace hf := (if_pos (show x3 ≤ l1 from c5)).symm.trans hf
      cases hf
      exact w_vret dX24_clear_24 rfl rfl
    · replace hf := (if_neg (show ¬ (x3 ≤ l1) from c5)).symm.trans hf
      refine w_aload_n dX24_clear_11 rfl rfl ?_
      obtain ⟨a6, b7, hf⟩ := Option.bind_eq_some_iff.mp hf
      refine GX24_25 b7 dX24_clear_12 rfl ?_
      refine w_iload_n dX24_clear_15 rfl rfl ?_
      refine w_iconst dX24_clear_16 (v := -1) (by decide) ?_
      obtain ⟨h8, b9, hf⟩ := Option.bind_eq_some_iff.mp hf
      refine x_qI b9 dX24_clear_17 ?_
      refine w_iinc dX24_clear_18 (v := (l1 + (1 : Int32))) rfl rfl (by decide) (ls' := [some (.ref l0), some (.int (l1 + (1 : Int32)))]) rfl ?_
      refine w_goto 2 dX24_clear_21 (by decide) ?_
      exact (ih _ _ _ _ hf).to ⟨rfl, rfl, trivial⟩
def fX24_clear (N : Nat) (this : Nat) (h : eH) : Option (Unit × eH) :=
  fX24_clear_b2 N N this (0 : Int32) h
theorem pX24_clear {w : eW} {d : Nat} (hd : 0 ≤ d) {N : Nat} {this : Nat} {h : eH} {q} (hf : fX24_clear N this h = some q) : wm w d YX24_clear [.ref this] h (e_is (e_rn c_V q)) := by
  show wp w d YX24_clear 0 [some (.ref this), none] [] h _
  unfold fX24_clear at hf
  refine w_iconst dX24_clear_0 (v := 0) (by decide) ?_
  refine w_istore_n dX24_clear_1 rfl (by decide) (ls' := [some (.ref this), some (.int (0 : Int32))]) rfl ?_
  exact (pX24_clear_b2 hd N _ _ _ _ hf).to ⟨rfl, rfl, trivial⟩
abbrev cX24_penaltyOf : ByteArray := prog_24_method_2_code
def yX24_penaltyOf : MethodName := ⟨RX24, "penaltyOf", "(I)I"⟩
def YX24_penaltyOf : eY := (yX24_penaltyOf, cX24_penaltyOf, 3, (Option.some FieldType.int), [])
theorem mX24_penaltyOf : e_mv YX24_penaltyOf RX24 1 := ⟨q3761, qs168, q3762, by decide, by decide +kernel, (e_sig (by decide +kernel))⟩
theorem dX24_penaltyOf_0 : decode cX24_penaltyOf 0 = .ok (.aload_n 0, 1) := dc_42 (by decide +kernel)
theorem dX24_penaltyOf_1 : decode cX24_penaltyOf 1 = .ok (.getfield 33, 3) := dc_180 (a := 0) (b := 33) (n := 33) (by decide +kernel)
theorem dX24_penaltyOf_4 : decode cX24_penaltyOf 4 = .ok (.getfield 47, 3) := dc_180 (a := 0) (b := 47) (n := 47) (by decide +kernel)
theorem dX24_penaltyOf_7 : decode cX24_penaltyOf 7 = .ok (.iload_n 1, 1) := dc_27 (by decide +kernel)
theorem dX24_penaltyOf_8 : decode cX24_penaltyOf 8 = .ok (.baload, 1) := dc_51 (by decide +kernel)
theorem dX24_penaltyOf_9 : decode cX24_penaltyOf 9 = .ok (.istore_n 2, 1) := dc_61 (by decide +kernel)
theorem dX24_penaltyOf_10 : decode cX24_penaltyOf 10 = .ok (.iload_n 2, 1) := dc_28 (by decide +kernel)
theorem dX24_penaltyOf_11 : decode cX24_penaltyOf 11 = .ok (.iconst 4, 1) := dc_7 (by decide +kernel)
theorem dX24_penaltyOf_12 : decode cX24_penaltyOf 12 = .ok (.if_icmp .ne 15, 3) := dc_160 (a := 0) (b := 15) (v := 15) (by decide +kernel)
theorem dX24_penaltyOf_15 : decode cX24_penaltyOf 15 = .ok (.aload_n 0, 1) := dc_42 (by decide +kernel)
theorem dX24_penaltyOf_16 : decode cX24_penaltyOf 16 = .ok (.getfield 33, 3) := dc_180 (a := 0) (b := 33) (n := 33) (by decide +kernel)
theorem dX24_penaltyOf_19 : decode cX24_penaltyOf 19 = .ok (.getfield 53, 3) := dc_180 (a := 0) (b := 53) (n := 53) (by decide +kernel)
theorem dX24_penaltyOf_22 : decode cX24_penaltyOf 22 = .ok (.iload_n 1, 1) := dc_27 (by decide +kernel)
theorem dX24_penaltyOf_23 : decode cX24_penaltyOf 23 = .ok (.iaload, 1) := dc_46 (by decide +kernel)
theorem dX24_penaltyOf_24 : decode cX24_penaltyOf 24 = .ok (.goto 36, 3) := dc_167 (a := 0) (b := 36) (v := 36) (by decide +kernel)
theorem dX24_penaltyOf_27 : decode cX24_penaltyOf 27 = .ok (.iload_n 2, 1) := dc_28 (by decide +kernel)
theorem dX24_penaltyOf_28 : decode cX24_penaltyOf 28 = .ok (.iconst 5, 1) := dc_8 (by decide +kernel)
theorem dX24_penaltyOf_29 : decode cX24_penaltyOf 29 = .ok (.if_icmp .ne 30, 3) := dc_160 (a := 0) (b := 30) (v := 30) (by decide +kernel)
theorem dX24_penaltyOf_32 : decode cX24_penaltyOf 32 = .ok (.aload_n 0, 1) := dc_42 (by decide +kernel)
theorem dX24_penaltyOf_33 : decode cX24_penaltyOf 33 = .ok (.getfield 41, 3) := dc_180 (a := 0) (b := 41) (n := 41) (by decide +kernel)
theorem dX24_penaltyOf_36 : decode cX24_penaltyOf 36 = .ok (.aload_n 0, 1) := dc_42 (by decide +kernel)
theorem dX24_penaltyOf_37 : decode cX24_penaltyOf 37 = .ok (.getfield 33, 3) := dc_180 (a := 0) (b := 33) (n := 33) (by decide +kernel)
theorem dX24_penaltyOf_40 : decode cX24_penaltyOf 40 = .ok (.getfield 53, 3) := dc_180 (a := 0) (b := 53) (n := 53) (by decide +kernel)
theorem dX24_penaltyOf_43 : decode cX24_penaltyOf 43 = .ok (.iload_n 1, 1) := dc_27 (by decide +kernel)
theorem dX24_penaltyOf_44 : decode cX24_penaltyOf 44 = .ok (.iaload, 1) := dc_46 (by decide +kernel)
theorem dX24_penaltyOf_45 : decode cX24_penaltyOf 45 = .ok (.ldc 56, 2) := dc_18 (a := 56) (by decide +kernel)
theorem dX24_penaltyOf_47 : decode cX24_penaltyOf 47 = .ok (.if_icmp .ne 7, 3) := dc_160 (a := 0) (b := 7) (v := 7) (by decide +kernel)
theorem dX24_penaltyOf_50 : decode cX24_penaltyOf 50 = .ok (.iconst 4, 1) := dc_7 (by decide +kernel)
theorem dX24_penaltyOf_51 : decode cX24_penaltyOf 51 = .ok (.goto 4, 3) := dc_167 (a := 0) (b := 4) (v := 4) (by decide +kernel)
theorem dX24_penaltyOf_54 : decode cX24_penaltyOf 54 = .ok (.iconst 3, 1) := dc_6 (by decide +kernel)
theorem dX24_penaltyOf_55 : decode cX24_penaltyOf 55 = .ok (.iaload, 1) := dc_46 (by decide +kernel)
theorem dX24_penaltyOf_56 : decode cX24_penaltyOf 56 = .ok (.goto 4, 3) := dc_167 (a := 0) (b := 4) (v := 4) (by decide +kernel)
theorem dX24_penaltyOf_59 : decode cX24_penaltyOf 59 = .ok (.iconst 0, 1) := dc_3 (by decide +kernel)
theorem dX24_penaltyOf_60 : decode cX24_penaltyOf 60 = .ok (.ireturn, 1) := dc_172 (by decide +kernel)
theorem GX24_33 {w : eW} {d : Nat} {Y : eY} {pc : Nat} {ls : eL} {st : List Value} {h : eH} {Q : eO → eH → Prop} {a : Nat} {x : Nat} (hf : g_A 23 h a 0 = some x) (hd : decode Y.2.1 pc = .ok (.getfield 33, 3)) (hY : Y.1.cls = RX24) (kk : wp w d Y (pc + 3) ls (.ref x :: st) h Q) : wp w d Y pc ls (.ref a :: st) h Q := x_gA (ci := 23) (k := 0) hf hd rfl (by decide) (by rw [hY]; exact q1392) kk
theorem GX24_41 {w : eW} {d : Nat} {Y : eY} {pc : Nat} {ls : eL} {st : List Value} {h : eH} {Q : eO → eH → Prop} {a : Nat} {x : Nat} (hf : g_A 23 h a 2 = some x) (hd : decode Y.2.1 pc = .ok (.getfield 41, 3)) (hY : Y.1.cls = RX24) (kk : wp w d Y (pc + 3) ls (.ref x :: st) h Q) : wp w d Y pc ls (.ref a :: st) h Q := x_gA (ci := 23) (k := 2) hf hd rfl (by decide) (by rw [hY]; exact q1394) kk
theorem GX24_47 {w : eW} {d : Nat} {Y : eY} {pc : Nat} {ls : eL} {st : List Value} {h : eH} {Q : eO → eH → Prop} {a : Nat} {x : Nat} (hf : g_A 21 h a 0 = some x) (hd : decode Y.2.1 pc = .ok (.getfield 47, 3)) (hY : Y.1.cls = RX24) (kk : wp w d Y (pc + 3) ls (.ref x :: st) h Q) : wp w d Y pc ls (.ref a :: st) h Q := x_gAN (ci := 21) (k := 0) hf hd rfl (by decide) (by rw [hY]; exact q1244) kk
theorem GX24_53 {w : eW} {d : Nat} {Y : eY} {pc : Nat} {ls : eL} {st : List Value} {h : eH} {Q : eO → eH → Prop} {a : Nat} {x : Nat} (hf : g_A 21 h a 1 = some x) (hd : decode Y.2.1 pc = .ok (.getfield 53, 3)) (hY : Y.1.cls = RX24) (kk : wp w d Y (pc + 3) ls (.ref x :: st) h Q) : wp w d Y pc ls (.ref a :: st) h Q := x_gAN (ci := 21) (k := 1) hf hd rfl (by decide) (by rw [hY]; exact q1248) kk
def fX24_penaltyOf_b60 (s0 : Int32) (h : eH) : Option (Int32 × eH) :=
  some (s0, h)
theorem pX24_penaltyOf_b60 {w : eW} {d : Nat} (hd : 0 ≤ d) {s0 : Int32} {h : eH} {q} (hf : fX24_penaltyOf_b60 s0 h = some q) : wp w d YX24_penaltyOf 60 [none, none, none] [.int s0] h (e_is (e_rn c_I q)) := by
  unfold fX24_penaltyOf_b60 at hf
  cases hf
  exact w_iret dX24_penaltyOf_60 rfl rfl rfl
def fX24_penaltyOf_b55 (s0 : Nat) (s1 : Int32) (h : eH) : Option (Int32 × eH) :=
  (r_I 100 h s0 s1).bind fun x1 =>
  fX24_penaltyOf_b60 x1 h
theorem pX24_penaltyOf_b55 {w : eW} {d : Nat} (hd : 0 ≤ d) {s0 : Nat} {s1 : Int32} {h : eH} {q} (hf : fX24_penaltyOf_b55 s0 s1 h = some q) : wp w d YX24_penaltyOf 55 [none, none, none] [.int s1, .ref s0] h (e_is (e_rn c_I q)) := by
  unfold fX24_penaltyOf_b55 at hf
  obtain ⟨x1, b2, hf⟩ := Option.bind_eq_some_iff.mp hf
  refine x_rI b2 dX24_penaltyOf_55 ?_
  refine w_goto 60 dX24_penaltyOf_56 (by decide) ?_
  exact (pX24_penaltyOf_b60 hd hf).to trivial
def fX24_penaltyOf (this : Nat) (p0 : Int32) (h : eH) : Option (Int32 × eH) :=
  (g_A 23 h this 0).bind fun a1 =>
  (g_A 21 h a1 0).bind fun a3 =>
  (r_I 102 h a3 p0).bind fun x5 =>
  if ¬ x5 = (4 : Int32) then
    if ¬ x5 = (5 : Int32) then
      fX24_penaltyOf_b60 (0 : Int32) h
    else
      (g_A 23 h this 2).bind fun a9 =>
      (g_A 23 h this 0).bind fun a11 =>
      (g_A 21 h a11 1).bind fun a13 =>
      (r_I 100 h a13 p0).bind fun x15 =>
      if ¬ x15 = (-2147483648 : Int32) then
        fX24_penaltyOf_b55 a9 (3 : Int32) h
      else
        fX24_penaltyOf_b55 a9 (4 : Int32) h
  else
    (g_A 23 h this 0).bind fun a18 =>
    (g_A 21 h a18 1).bind fun a20 =>
    (r_I 100 h a20 p0).bind fun x22 =>
    fX24_penaltyOf_b60 x22 h
theorem pX24_penaltyOf {w : eW} {d : Nat} (hd : 0 ≤ d) {this : Nat} {p0 : Int32} {h : eH} {q} (hf : fX24_penaltyOf this p0 h = some q) : wm w d YX24_penaltyOf [.ref this, .int p0] h (e_is (e_rn c_I q)) := by
  show wp w d YX24_penaltyOf 0 [some (.ref this), some (.int p0), none] [] h _
  unfold fX24_penaltyOf at hf
  refine w_aload_n dX24_penaltyOf_0 rfl rfl ?_
  obtain ⟨a1, b2, hf⟩ := Option.bind_eq_some_iff.mp hf
  refine GX24_33 b2 dX24_penaltyOf_1 rfl ?_
  obtain ⟨a3, b4, hf⟩ := Option.bind_eq_some_iff.mp hf
  refine GX24_47 b4 dX24_penaltyOf_4 rfl ?_
  refine w_iload_n dX24_penaltyOf_7 rfl rfl ?_
  obtain ⟨x5, b6, hf⟩ := Option.bind_eq_some_iff.mp hf
  refine x_rB b6 dX24_penaltyOf_8 ?_
  refine w_istore_n dX24_penaltyOf_9 rfl (by decide) (ls' := [some (.ref this), some (.int p0), some (.int x5)]) rfl ?_
  refine w_iload_n dX24_penaltyOf_10 rfl rfl ?_
  refine w_iconst dX24_penaltyOf_11 (v := 4) (by decide) ?_
  refine w_icmp_ne 27 dX24_penaltyOf_12 (by decide) (fun c7 => ?_) (fun c7 => ?_)
  · replace hf := (if_pos (show ¬ x5 = (4 : Int32) from c7)).symm.trans hf
    refine w_iload_n dX24_penaltyOf_27 rfl rfl ?_
    refine w_iconst dX24_penaltyOf_28 (v := 5) (by decide) ?_
    refine w_icmp_ne 59 dX24_penaltyOf_29 (by decide) (fun c8 => ?_) (fun c8 => ?_)
    · replace hf := (if_pos (show ¬ x5 = (5 : Int32) from c8)).symm.trans hf
      refine w_iconst dX24_penaltyOf_59 (v := 0) (by decide) ?_
      exact (pX24_penaltyOf_b60 hd hf).to trivial
    · replace hf := (if_neg (show ¬ (¬ x5 = (5 : Int32)) from (fun z => z c8))).symm.trans hf
      refine w_aload_n dX24_penaltyOf_32 rfl rfl ?_
      obtain ⟨a9, b10, hf⟩ := Option.bind_eq_some_iff.mp hf
      refine GX24_41 b10 dX24_penaltyOf_33 rfl ?_
      refine w_aload_n dX24_penaltyOf_36 rfl rfl ?_
      obtain ⟨a11, b12, hf⟩ := Option.bind_eq_some_iff.mp hf
      refine GX24_33 b12 dX24_penaltyOf_37 rfl ?_
      obtain ⟨a13, b14, hf⟩ := Option.bind_eq_some_iff.mp hf
      refine GX24_53 b14 dX24_penaltyOf_40 rfl ?_
      refine w_iload_n dX24_penaltyOf_43 rfl rfl ?_
      obtain ⟨x15, b16, hf⟩ := Option.bind_eq_some_iff.mp hf
      refine x_rI b16 dX24_penaltyOf_44 ?_
      refine w_ldc dX24_penaltyOf_45 q3763 ?_
      refine w_icmp_ne 54 dX24_penaltyOf_47 (by decide) (fun c17 => ?_) (fun c17 => ?_)
      · replace hf := (if_pos (show ¬ x15 = (-2147483648 : Int32) from c17)).symm.trans hf
        refine w_iconst dX24_penaltyOf_54 (v := 3) (by decide) ?_
        exact (pX24_penaltyOf_b55 hd hf).to trivial
      · replace hf := (if_neg (show ¬ (¬ x15 = (-2147483648 : Int32)) from (fun z => z c17))).symm.trans hf
        refine w_iconst dX24_penaltyOf_50 (v := 4) (by decide) ?_
        refine w_goto 55 dX24_penaltyOf_51 (by decide) ?_
        exact (pX24_penaltyOf_b55 hd hf).to trivial
  · replace hf := (if_neg (show ¬ (¬ x5 = (4 : Int32)) from (fun z => z c7))).symm.trans hf
    refine w_aload_n dX24_penaltyOf_15 rfl rfl ?_
    obtain ⟨a18, b19, hf⟩ := Option.bind_eq_some_iff.mp hf
    refine GX24_33 b19 dX24_penaltyOf_16 rfl ?_
    obtain ⟨a20, b21, hf⟩ := Option.bind_eq_some_iff.mp hf
    refine GX24_53 b21 dX24_penaltyOf_19 rfl ?_
    refine w_iload_n dX24_penaltyOf_22 rfl rfl ?_
    obtain ⟨x22, b23, hf⟩ := Option.bind_eq_some_iff.mp hf
    refine x_rI b23 dX24_penaltyOf_23 ?_
    refine w_goto 60 dX24_penaltyOf_24 (by decide) ?_
    exact (pX24_penaltyOf_b60 hd hf).to trivial
abbrev cX24_before : ByteArray := prog_24_method_3_code
def yX24_before : MethodName := ⟨RX24, "before", "(I)I"⟩
def YX24_before : eY := (yX24_before, cX24_before, 3, (Option.some FieldType.int), [])
theorem mX24_before : e_mv YX24_before RX24 1 := ⟨q3766, qs169, q3767, by decide, by decide +kernel, (e_sig (by decide +kernel))⟩
theorem dX24_before_0 : decode cX24_before 0 = .ok (.iload_n 1, 1) := dc_27 (by decide +kernel)
theorem dX24_before_1 : decode cX24_before 1 = .ok (.iconst 1, 1) := dc_4 (by decide +kernel)
theorem dX24_before_2 : decode cX24_before 2 = .ok (.isub, 1) := dc_100 (by decide +kernel)
theorem dX24_before_3 : decode cX24_before 3 = .ok (.istore_n 2, 1) := dc_61 (by decide +kernel)
theorem dX24_before_4 : decode cX24_before 4 = .ok (.iload_n 2, 1) := dc_28 (by decide +kernel)
theorem dX24_before_5 : decode cX24_before 5 = .ok (.ifCond .lt 21, 3) := dc_155 (a := 0) (b := 21) (v := 21) (by decide +kernel)
theorem dX24_before_8 : decode cX24_before 8 = .ok (.aload_n 0, 1) := dc_42 (by decide +kernel)
theorem dX24_before_9 : decode cX24_before 9 = .ok (.getfield 37, 3) := dc_180 (a := 0) (b := 37) (n := 37) (by decide +kernel)
theorem dX24_before_12 : decode cX24_before 12 = .ok (.getfield 57, 3) := dc_180 (a := 0) (b := 57) (n := 57) (by decide +kernel)
theorem dX24_before_15 : decode cX24_before 15 = .ok (.iload_n 2, 1) := dc_28 (by decide +kernel)
theorem dX24_before_16 : decode cX24_before 16 = .ok (.baload, 1) := dc_51 (by decide +kernel)
theorem dX24_before_17 : decode cX24_before 17 = .ok (.ifCond .eq 9, 3) := dc_153 (a := 0) (b := 9) (v := 9) (by decide +kernel)
theorem dX24_before_20 : decode cX24_before 20 = .ok (.iinc 2 (-1), 3) := dc_132 (a := 2) (b := 255) (v := -1) (by decide +kernel)
theorem dX24_before_23 : decode cX24_before 23 = .ok (.goto (-19), 3) := dc_167 (a := 255) (b := 237) (v := -19) (by decide +kernel)
theorem dX24_before_26 : decode cX24_before 26 = .ok (.iload_n 2, 1) := dc_28 (by decide +kernel)
theorem dX24_before_27 : decode cX24_before 27 = .ok (.ireturn, 1) := dc_172 (by decide +kernel)
theorem GX24_37 {w : eW} {d : Nat} {Y : eY} {pc : Nat} {ls : eL} {st : List Value} {h : eH} {Q : eO → eH → Prop} {a : Nat} {x : Nat} (hf : g_A 23 h a 1 = some x) (hd : decode Y.2.1 pc = .ok (.getfield 37, 3)) (hY : Y.1.cls = RX24) (kk : wp w d Y (pc + 3) ls (.ref x :: st) h Q) : wp w d Y pc ls (.ref a :: st) h Q := x_gA (ci := 23) (k := 1) hf hd rfl (by decide) (by rw [hY]; exact q1393) kk
theorem GX24_57 {w : eW} {d : Nat} {Y : eY} {pc : Nat} {ls : eL} {st : List Value} {h : eH} {Q : eO → eH → Prop} {a : Nat} {x : Nat} (hf : g_A 22 h a 3 = some x) (hd : decode Y.2.1 pc = .ok (.getfield 57, 3)) (hY : Y.1.cls = RX24) (kk : wp w d Y (pc + 3) ls (.ref x :: st) h Q) : wp w d Y pc ls (.ref a :: st) h Q := x_gAN (ci := 22) (k := 3) hf hd rfl (by decide) (by rw [hY]; exact q1287) kk
def fX24_before_b26 (N : Nat) (l2 : Int32) (h : eH) : Option (Int32 × eH) :=
  some (l2, h)
theorem pX24_before_b26 {w : eW} {d : Nat} (hd : 0 ≤ d) {N : Nat} {l2 : Int32} {h : eH} {q} (hf : fX24_before_b26 N l2 h = some q) : wp w d YX24_before 26 [none, none, some (.int l2)] [] h (e_is (e_rn c_I q)) := by
  unfold fX24_before_b26 at hf
  refine w_iload_n dX24_before_26 rfl rfl ?_
  cases hf
  exact w_iret dX24_before_27 rfl rfl rfl
def fX24_before_b4 (N : Nat) : Nat → Nat → Int32 → eH → Option (Int32 × eH)
  | 0, _, _, _ => none
  | n + 1, l0, l2, h =>
    if l2 < 0 then
      fX24_before_b26 N l2 h
    else
      (g_A 23 h l0 1).bind fun a2 =>
      (g_A 22 h a2 3).bind fun a4 =>
      (r_I 103 h a4 l2).bind fun x6 =>
      if x6 = 0 then
        fX24_before_b26 N l2 h
      else
        fX24_before_b4 N n l0 (l2 + (-1 : Int32)) h
theorem pX24_before_b4 {w : eW} {d : Nat} (hd : 0 ≤ d) {N : Nat} : ∀ (n : Nat) l0 l2 h q, fX24_before_b4 N n l0 l2 h = some q → wp w d YX24_before 4 [some (.ref l0), none, some (.int l2)] [] h (e_is (e_rn c_I q)) := by
  intro n
  induction n with
  | zero => intro l0 l2 h q hf; simp [fX24_before_b4] at hf
  | succ n ih =>
    intro l0 l2 h q hf
    rw [fX24_before_b4] at hf
    refine w_iload_n dX24_before_4 rfl rfl ?_
    refine w_if_lt 26 dX24_before_5 (by decide) (fun c1 => ?_) (fun c1 => ?_)
    · replace hf := (if_pos (show l2 < 0 from c1)).symm.trans hf
      exact (pX24_before_b26 hd hf).to ⟨rfl, trivial⟩
    · replace hf := (if_neg (show ¬ (l2 < 0) from c1)).symm.trans hf
      refine w_aload_n dX24_before_8 rfl rfl ?_
      obtain ⟨a2, b3, hf⟩ := Option.bind_eq_some_iff.mp hf
      refine GX24_37 b3 dX24_before_9 rfl ?_
      obtain ⟨a4, b5, hf⟩ := Option.bind_eq_some_iff.mp hf
      refine GX24_57 b5 dX24_before_12 rfl ?_
      refine w_iload_n dX24_before_15 rfl rfl ?_
      obtain ⟨x6, b7, hf⟩ := Option.bind_eq_some_iff.mp hf
      refine x_rZ b7 dX24_before_16 ?_
      refine w_if_eq 26 dX24_before_17 (by decide) (fun c8 => ?_) (fun c8 => ?_)
      · replace hf := (if_pos (show x6 = 0 from c8)).symm.trans hf
        exact (pX24_before_b26 hd hf).to ⟨rfl, trivial⟩
      · replace hf := (if_neg (show ¬ (x6 = 0) from c8)).symm.trans hf
        refine w_iinc dX24_before_20 (v := (l2 + (-1 : Int32))) rfl rfl (by decide) (ls' := [some (.ref l0), none, some (.int (l2 + (-1 : Int32)))]) rfl ?_
        refine w_goto 4 dX24_before_23 (by decide) ?_
        exact (ih _ _ _ _ hf).to ⟨rfl, rfl, trivial⟩
def fX24_before (N : Nat) (this : Nat) (p0 : Int32) (h : eH) : Option (Int32 × eH) :=
  fX24_before_b4 N N this (p0 - (1 : Int32)) h
theorem pX24_before {w : eW} {d : Nat} (hd : 0 ≤ d) {N : Nat} {this : Nat} {p0 : Int32} {h : eH} {q} (hf : fX24_before N this p0 h = some q) : wm w d YX24_before [.ref this, .int p0] h (e_is (e_rn c_I q)) := by
  show wp w d YX24_before 0 [some (.ref this), some (.int p0), none] [] h _
  unfold fX24_before at hf
  refine w_iload_n dX24_before_0 rfl rfl ?_
  refine w_iconst dX24_before_1 (v := 1) (by decide) ?_
  refine w_isub dX24_before_2 ?_
  refine w_istore_n dX24_before_3 rfl (by decide) (ls' := [some (.ref this), some (.int p0), some (.int (p0 - (1 : Int32)))]) rfl ?_
  exact (pX24_before_b4 hd N _ _ _ _ hf).to ⟨rfl, rfl, trivial⟩
abbrev cX24_isPlace : ByteArray := prog_24_method_4_code
def yX24_isPlace : MethodName := ⟨RX24, "isPlace", "(I)Z"⟩
def YX24_isPlace : eY := (yX24_isPlace, cX24_isPlace, 3, (Option.some FieldType.boolean), [])
theorem mX24_isPlace : e_mv YX24_isPlace RX24 1 := ⟨q3757, qs167, q3758, by decide, by decide +kernel, (e_sig (by decide +kernel))⟩
theorem dX24_isPlace_0 : decode cX24_isPlace 0 = .ok (.aload_n 0, 1) := dc_42 (by decide +kernel)
theorem dX24_isPlace_1 : decode cX24_isPlace 1 = .ok (.getfield 37, 3) := dc_180 (a := 0) (b := 37) (n := 37) (by decide +kernel)
theorem dX24_isPlace_4 : decode cX24_isPlace 4 = .ok (.getfield 57, 3) := dc_180 (a := 0) (b := 57) (n := 57) (by decide +kernel)
theorem dX24_isPlace_7 : decode cX24_isPlace 7 = .ok (.iload_n 1, 1) := dc_27 (by decide +kernel)
theorem dX24_isPlace_8 : decode cX24_isPlace 8 = .ok (.baload, 1) := dc_51 (by decide +kernel)
theorem dX24_isPlace_9 : decode cX24_isPlace 9 = .ok (.ifCond .ne 14, 3) := dc_154 (a := 0) (b := 14) (v := 14) (by decide +kernel)
theorem dX24_isPlace_12 : decode cX24_isPlace 12 = .ok (.aload_n 0, 1) := dc_42 (by decide +kernel)
theorem dX24_isPlace_13 : decode cX24_isPlace 13 = .ok (.iload_n 1, 1) := dc_27 (by decide +kernel)
theorem dX24_isPlace_14 : decode cX24_isPlace 14 = .ok (.invokevirtual 63, 3) := dc_182 (a := 0) (b := 63) (n := 63) (by decide +kernel)
theorem dX24_isPlace_17 : decode cX24_isPlace 17 = .ok (.sipush 10000, 3) := dc_17 (a := 39) (b := 16) (v := 10000) (by decide +kernel)
theorem dX24_isPlace_20 : decode cX24_isPlace 20 = .ok (.if_icmp .ne 5, 3) := dc_160 (a := 0) (b := 5) (v := 5) (by decide +kernel)
theorem dX24_isPlace_23 : decode cX24_isPlace 23 = .ok (.iconst 0, 1) := dc_3 (by decide +kernel)
theorem dX24_isPlace_24 : decode cX24_isPlace 24 = .ok (.ireturn, 1) := dc_172 (by decide +kernel)
theorem dX24_isPlace_25 : decode cX24_isPlace 25 = .ok (.aload_n 0, 1) := dc_42 (by decide +kernel)
theorem dX24_isPlace_26 : decode cX24_isPlace 26 = .ok (.getfield 33, 3) := dc_180 (a := 0) (b := 33) (n := 33) (by decide +kernel)
theorem dX24_isPlace_29 : decode cX24_isPlace 29 = .ok (.getfield 47, 3) := dc_180 (a := 0) (b := 47) (n := 47) (by decide +kernel)
theorem dX24_isPlace_32 : decode cX24_isPlace 32 = .ok (.iload_n 1, 1) := dc_27 (by decide +kernel)
theorem dX24_isPlace_33 : decode cX24_isPlace 33 = .ok (.baload, 1) := dc_51 (by decide +kernel)
theorem dX24_isPlace_34 : decode cX24_isPlace 34 = .ok (.tableswitch 129 1 5 #[34, 129, 88, 122, 124], 34) := by decide +kernel
theorem dX24_isPlace_68 : decode cX24_isPlace 68 = .ok (.aload_n 0, 1) := dc_42 (by decide +kernel)
theorem dX24_isPlace_69 : decode cX24_isPlace 69 = .ok (.iload_n 1, 1) := dc_27 (by decide +kernel)
theorem dX24_isPlace_70 : decode cX24_isPlace 70 = .ok (.invokevirtual 67, 3) := dc_182 (a := 0) (b := 67) (n := 67) (by decide +kernel)
theorem dX24_isPlace_73 : decode cX24_isPlace 73 = .ok (.istore_n 2, 1) := dc_61 (by decide +kernel)
theorem dX24_isPlace_74 : decode cX24_isPlace 74 = .ok (.iload_n 2, 1) := dc_28 (by decide +kernel)
theorem dX24_isPlace_75 : decode cX24_isPlace 75 = .ok (.ifCond .lt 45, 3) := dc_155 (a := 0) (b := 45) (v := 45) (by decide +kernel)
theorem dX24_isPlace_78 : decode cX24_isPlace 78 = .ok (.aload_n 0, 1) := dc_42 (by decide +kernel)
theorem dX24_isPlace_79 : decode cX24_isPlace 79 = .ok (.getfield 33, 3) := dc_180 (a := 0) (b := 33) (n := 33) (by decide +kernel)
theorem dX24_isPlace_82 : decode cX24_isPlace 82 = .ok (.getfield 47, 3) := dc_180 (a := 0) (b := 47) (n := 47) (by decide +kernel)
theorem dX24_isPlace_85 : decode cX24_isPlace 85 = .ok (.iload_n 2, 1) := dc_28 (by decide +kernel)
theorem dX24_isPlace_86 : decode cX24_isPlace 86 = .ok (.baload, 1) := dc_51 (by decide +kernel)
theorem dX24_isPlace_87 : decode cX24_isPlace 87 = .ok (.ifCond .eq 29, 3) := dc_153 (a := 0) (b := 29) (v := 29) (by decide +kernel)
theorem dX24_isPlace_90 : decode cX24_isPlace 90 = .ok (.aload_n 0, 1) := dc_42 (by decide +kernel)
theorem dX24_isPlace_91 : decode cX24_isPlace 91 = .ok (.getfield 33, 3) := dc_180 (a := 0) (b := 33) (n := 33) (by decide +kernel)
theorem dX24_isPlace_94 : decode cX24_isPlace 94 = .ok (.getfield 47, 3) := dc_180 (a := 0) (b := 47) (n := 47) (by decide +kernel)
theorem dX24_isPlace_97 : decode cX24_isPlace 97 = .ok (.iload_n 2, 1) := dc_28 (by decide +kernel)
theorem dX24_isPlace_98 : decode cX24_isPlace 98 = .ok (.baload, 1) := dc_51 (by decide +kernel)
theorem dX24_isPlace_99 : decode cX24_isPlace 99 = .ok (.iconst 5, 1) := dc_8 (by decide +kernel)
theorem dX24_isPlace_100 : decode cX24_isPlace 100 = .ok (.if_icmp .eq 16, 3) := dc_159 (a := 0) (b := 16) (v := 16) (by decide +kernel)
theorem dX24_isPlace_103 : decode cX24_isPlace 103 = .ok (.aload_n 0, 1) := dc_42 (by decide +kernel)
theorem dX24_isPlace_104 : decode cX24_isPlace 104 = .ok (.getfield 33, 3) := dc_180 (a := 0) (b := 33) (n := 33) (by decide +kernel)
theorem dX24_isPlace_107 : decode cX24_isPlace 107 = .ok (.getfield 47, 3) := dc_180 (a := 0) (b := 47) (n := 47) (by decide +kernel)
theorem dX24_isPlace_110 : decode cX24_isPlace 110 = .ok (.iload_n 2, 1) := dc_28 (by decide +kernel)
theorem dX24_isPlace_111 : decode cX24_isPlace 111 = .ok (.baload, 1) := dc_51 (by decide +kernel)
theorem dX24_isPlace_112 : decode cX24_isPlace 112 = .ok (.iconst 2, 1) := dc_5 (by decide +kernel)
theorem dX24_isPlace_113 : decode cX24_isPlace 113 = .ok (.if_icmp .ne 7, 3) := dc_160 (a := 0) (b := 7) (v := 7) (by decide +kernel)
theorem dX24_isPlace_116 : decode cX24_isPlace 116 = .ok (.iconst 1, 1) := dc_4 (by decide +kernel)
theorem dX24_isPlace_117 : decode cX24_isPlace 117 = .ok (.goto 4, 3) := dc_167 (a := 0) (b := 4) (v := 4) (by decide +kernel)
theorem dX24_isPlace_120 : decode cX24_isPlace 120 = .ok (.iconst 0, 1) := dc_3 (by decide +kernel)
theorem dX24_isPlace_121 : decode cX24_isPlace 121 = .ok (.ireturn, 1) := dc_172 (by decide +kernel)
theorem dX24_isPlace_122 : decode cX24_isPlace 122 = .ok (.iload_n 1, 1) := dc_27 (by decide +kernel)
theorem dX24_isPlace_123 : decode cX24_isPlace 123 = .ok (.iconst 1, 1) := dc_4 (by decide +kernel)
theorem dX24_isPlace_124 : decode cX24_isPlace 124 = .ok (.iadd, 1) := dc_96 (by decide +kernel)
theorem dX24_isPlace_125 : decode cX24_isPlace 125 = .ok (.aload_n 0, 1) := dc_42 (by decide +kernel)
theorem dX24_isPlace_126 : decode cX24_isPlace 126 = .ok (.getfield 33, 3) := dc_180 (a := 0) (b := 33) (n := 33) (by decide +kernel)
theorem dX24_isPlace_129 : decode cX24_isPlace 129 = .ok (.getfield 70, 3) := dc_180 (a := 0) (b := 70) (n := 70) (by decide +kernel)
theorem dX24_isPlace_132 : decode cX24_isPlace 132 = .ok (.if_icmp .ge 22, 3) := dc_162 (a := 0) (b := 22) (v := 22) (by decide +kernel)
theorem dX24_isPlace_135 : decode cX24_isPlace 135 = .ok (.aload_n 0, 1) := dc_42 (by decide +kernel)
theorem dX24_isPlace_136 : decode cX24_isPlace 136 = .ok (.getfield 33, 3) := dc_180 (a := 0) (b := 33) (n := 33) (by decide +kernel)
theorem dX24_isPlace_139 : decode cX24_isPlace 139 = .ok (.getfield 47, 3) := dc_180 (a := 0) (b := 47) (n := 47) (by decide +kernel)
theorem dX24_isPlace_142 : decode cX24_isPlace 142 = .ok (.iload_n 1, 1) := dc_27 (by decide +kernel)
theorem dX24_isPlace_143 : decode cX24_isPlace 143 = .ok (.iconst 1, 1) := dc_4 (by decide +kernel)
theorem dX24_isPlace_144 : decode cX24_isPlace 144 = .ok (.iadd, 1) := dc_96 (by decide +kernel)
theorem dX24_isPlace_145 : decode cX24_isPlace 145 = .ok (.baload, 1) := dc_51 (by decide +kernel)
theorem dX24_isPlace_146 : decode cX24_isPlace 146 = .ok (.iconst 1, 1) := dc_4 (by decide +kernel)
theorem dX24_isPlace_147 : decode cX24_isPlace 147 = .ok (.if_icmp .ne 7, 3) := dc_160 (a := 0) (b := 7) (v := 7) (by decide +kernel)
theorem dX24_isPlace_150 : decode cX24_isPlace 150 = .ok (.iconst 1, 1) := dc_4 (by decide +kernel)
theorem dX24_isPlace_151 : decode cX24_isPlace 151 = .ok (.goto 4, 3) := dc_167 (a := 0) (b := 4) (v := 4) (by decide +kernel)
theorem dX24_isPlace_154 : decode cX24_isPlace 154 = .ok (.iconst 0, 1) := dc_3 (by decide +kernel)
theorem dX24_isPlace_155 : decode cX24_isPlace 155 = .ok (.ireturn, 1) := dc_172 (by decide +kernel)
theorem dX24_isPlace_156 : decode cX24_isPlace 156 = .ok (.iconst 1, 1) := dc_4 (by decide +kernel)
theorem dX24_isPlace_157 : decode cX24_isPlace 157 = .ok (.ireturn, 1) := dc_172 (by decide +kernel)
theorem dX24_isPlace_158 : decode cX24_isPlace 158 = .ok (.aload_n 0, 1) := dc_42 (by decide +kernel)
theorem dX24_isPlace_159 : decode cX24_isPlace 159 = .ok (.getfield 74, 3) := dc_180 (a := 0) (b := 74) (n := 74) (by decide +kernel)
theorem dX24_isPlace_162 : decode cX24_isPlace 162 = .ok (.ireturn, 1) := dc_172 (by decide +kernel)
theorem dX24_isPlace_163 : decode cX24_isPlace 163 = .ok (.iconst 0, 1) := dc_3 (by decide +kernel)
theorem dX24_isPlace_164 : decode cX24_isPlace 164 = .ok (.ireturn, 1) := dc_172 (by decide +kernel)
theorem GX24_70 {w : eW} {d : Nat} {Y : eY} {pc : Nat} {ls : eL} {st : List Value} {h : eH} {Q : eO → eH → Prop} {a : Nat} {x : Int32} (hf : g_I 21 h a 5 = some x) (hd : decode Y.2.1 pc = .ok (.getfield 70, 3)) (hY : Y.1.cls = RX24) (kk : wp w d Y (pc + 3) ls (.int x :: st) h Q) : wp w d Y pc ls (.ref a :: st) h Q := x_gIN (ci := 21) (k := 5) hf hd rfl (by decide) (by rw [hY]; exact q1262) kk
theorem GX24_74 {w : eW} {d : Nat} {Y : eY} {pc : Nat} {ls : eL} {st : List Value} {h : eH} {Q : eO → eH → Prop} {a : Nat} {x : Int32} (hf : g_I 23 h a 8 = some x) (hd : decode Y.2.1 pc = .ok (.getfield 74, 3)) (hY : Y.1.cls = RX24) (kk : wp w d Y (pc + 3) ls (.int x :: st) h Q) : wp w d Y pc ls (.ref a :: st) h Q := x_gI (ci := 23) (k := 8) hf hd rfl (by decide) (by rw [hY]; exact q1401) kk
def fX24_isPlace_b23 (N : Nat)  (h : eH) : Option (Int32 × eH) :=
  some ((0 : Int32), h)
theorem pX24_isPlace_b23 {w : eW} {d : Nat} (hd : 1 ≤ d + 1) {N : Nat}  {h : eH} {q} (hf : fX24_isPlace_b23 N h = some q) : wp w (d + 1) YX24_isPlace 23 [none, none, none] [] h (e_is (e_rn c_I q)) := by
  unfold fX24_isPlace_b23 at hf
  refine w_iconst dX24_isPlace_23 (v := 0) (by decide) ?_
  cases hf
  exact w_iret dX24_isPlace_24 rfl rfl rfl
def fX24_isPlace_b121 (N : Nat) (s0 : Int32) (h : eH) : Option (Int32 × eH) :=
  z_r s0 (s0, h)
theorem pX24_isPlace_b121 {w : eW} {d : Nat} (hd : 1 ≤ d + 1) {N : Nat} {s0 : Int32} {h : eH} {q} (hf : fX24_isPlace_b121 N s0 h = some q) : wp w (d + 1) YX24_isPlace 121 [none, none, none] [.int s0] h (e_is (e_rn c_I q)) := by
  unfold fX24_isPlace_b121 at hf
  obtain ⟨b1, rfl⟩ := z_r_some hf
  exact w_iret dX24_isPlace_121 rfl b1 rfl
def fX24_isPlace_b116 (N : Nat)  (h : eH) : Option (Int32 × eH) :=
  fX24_isPlace_b121 N (1 : Int32) h
theorem pX24_isPlace_b116 {w : eW} {d : Nat} (hd : 1 ≤ d + 1) {N : Nat}  {h : eH} {q} (hf : fX24_isPlace_b116 N h = some q) : wp w (d + 1) YX24_isPlace 116 [none, none, none] [] h (e_is (e_rn c_I q)) := by
  unfold fX24_isPlace_b116 at hf
  refine w_iconst dX24_isPlace_116 (v := 1) (by decide) ?_
  refine w_goto 121 dX24_isPlace_117 (by decide) ?_
  exact (pX24_isPlace_b121 hd hf).to trivial
def fX24_isPlace_b120 (N : Nat)  (h : eH) : Option (Int32 × eH) :=
  fX24_isPlace_b121 N (0 : Int32) h
theorem pX24_isPlace_b120 {w : eW} {d : Nat} (hd : 1 ≤ d + 1) {N : Nat}  {h : eH} {q} (hf : fX24_isPlace_b120 N h = some q) : wp w (d + 1) YX24_isPlace 120 [none, none, none] [] h (e_is (e_rn c_I q)) := by
  unfold fX24_isPlace_b120 at hf
  refine w_iconst dX24_isPlace_120 (v := 0) (by decide) ?_
  exact (pX24_isPlace_b121 hd hf).to trivial
def fX24_isPlace_b155 (N : Nat) (s0 : Int32) (h : eH) : Option (Int32 × eH) :=
  z_r s0 (s0, h)
theorem pX24_isPlace_b155 {w : eW} {d : Nat} (hd : 1 ≤ d + 1) {N : Nat} {s0 : Int32} {h : eH} {q} (hf : fX24_isPlace_b155 N s0 h = some q) : wp w (d + 1) YX24_isPlace 155 [none, none, none] [.int s0] h (e_is (e_rn c_I q)) := by
  unfold fX24_isPlace_b155 at hf
  obtain ⟨b1, rfl⟩ := z_r_some hf
  exact w_iret dX24_isPlace_155 rfl b1 rfl
def fX24_isPlace_b154 (N : Nat)  (h : eH) : Option (Int32 × eH) :=
  fX24_isPlace_b155 N (0 : Int32) h
theorem pX24_isPlace_b154 {w : eW} {d : Nat} (hd : 1 ≤ d + 1) {N : Nat}  {h : eH} {q} (hf : fX24_isPlace_b154 N h = some q) : wp w (d + 1) YX24_isPlace 154 [none, none, none] [] h (e_is (e_rn c_I q)) := by
  unfold fX24_isPlace_b154 at hf
  refine w_iconst dX24_isPlace_154 (v := 0) (by decide) ?_
  exact (pX24_isPlace_b155 hd hf).to trivial
def fX24_isPlace (N : Nat) (this : Nat) (p0 : Int32) (h : eH) : Option (Int32 × eH) :=
  (g_A 23 h this 1).bind fun a1 =>
  (g_A 22 h a1 3).bind fun a3 =>
  (r_I 103 h a3 p0).bind fun x5 =>
  if ¬ x5 = 0 then
    fX24_isPlace_b23 N h
  else
    (k_ok 23 h this).bind fun _ =>
    (fX24_penaltyOf this p0 h).bind fun q9 =>
    if ¬ q9.1 = (10000 : Int32) then
      (g_A 23 q9.2 this 0).bind fun a11 =>
      (g_A 21 q9.2 a11 0).bind fun a13 =>
      (r_I 102 q9.2 a13 p0).bind fun x15 =>
      if x15 = (1 : Int32) then
        (k_ok 23 q9.2 this).bind fun _ =>
        (fX24_before N this p0 q9.2).bind fun q19 =>
        if q19.1 < 0 then
          fX24_isPlace_b120 N q19.2
        else
          (g_A 23 q19.2 this 0).bind fun a21 =>
          (g_A 21 q19.2 a21 0).bind fun a23 =>
          (r_I 102 q19.2 a23 q19.1).bind fun x25 =>
          if x25 = 0 then
            fX24_isPlace_b116 N q19.2
          else
            (g_A 23 q19.2 this 0).bind fun a28 =>
            (g_A 21 q19.2 a28 0).bind fun a30 =>
            (r_I 102 q19.2 a30 q19.1).bind fun x32 =>
            if x32 = (5 : Int32) then
              fX24_isPlace_b116 N q19.2
            else
              (g_A 23 q19.2 this 0).bind fun a35 =>
              (g_A 21 q19.2 a35 0).bind fun a37 =>
              (r_I 102 q19.2 a37 q19.1).bind fun x39 =>
              if ¬ x39 = (2 : Int32) then
                fX24_isPlace_b120 N q19.2
              else
                fX24_isPlace_b116 N q19.2
      else
      if x15 = (2 : Int32) then
        some ((0 : Int32), q9.2)
      else
      if x15 = (3 : Int32) then
        (g_A 23 q9.2 this 0).bind fun a44 =>
        (g_I 21 q9.2 a44 5).bind fun x46 =>
        if x46 ≤ (p0 + (1 : Int32)) then
          fX24_isPlace_b154 N q9.2
        else
          (g_A 23 q9.2 this 0).bind fun a49 =>
          (g_A 21 q9.2 a49 0).bind fun a51 =>
          (r_I 102 q9.2 a51 (p0 + (1 : Int32))).bind fun x53 =>
          if ¬ x53 = (1 : Int32) then
            fX24_isPlace_b154 N q9.2
          else
            fX24_isPlace_b155 N (1 : Int32) q9.2
      else
      if x15 = (4 : Int32) then
        some ((1 : Int32), q9.2)
      else
      if x15 = (5 : Int32) then
        (g_I 23 q9.2 this 8).bind fun x58 =>
        z_r x58 (x58, q9.2)
      else
      some ((0 : Int32), q9.2)
    else
      fX24_isPlace_b23 N q9.2
theorem pX24_isPlace {w : eW} {d : Nat} (hd : 1 ≤ d) {N : Nat} {this : Nat} {p0 : Int32} {h : eH} {q} (hf : fX24_isPlace N this p0 h = some q) : wm w d YX24_isPlace [.ref this, .int p0] h (e_is (e_rn c_I q)) := by
  obtain ⟨d, rfl⟩ : ∃ e, d = e + 1 := ⟨d - 1, by omega⟩
  show wp w (d + 1) YX24_isPlace 0 [some (.ref this), some (.int p0), none] [] h _
  unfold fX24_isPlace at hf
  refine w_aload_n dX24_isPlace_0 rfl rfl ?_
  obtain ⟨a1, b2, hf⟩ := Option.bind_eq_some_iff.mp hf
  refine GX24_37 b2 dX24_isPlace_1 rfl ?_
  obtain ⟨a3, b4, hf⟩ := Option.bind_eq_some_iff.mp hf
  refine GX24_57 b4 dX24_isPlace_4 rfl ?_
  refine w_iload_n dX24_isPlace_7 rfl rfl ?_
  obtain ⟨x5, b6, hf⟩ := Option.bind_eq_some_iff.mp hf
  refine x_rZ b6 dX24_isPlace_8 ?_
  refine w_if_ne 23 dX24_isPlace_9 (by decide) (fun c7 => ?_) (fun c7 => ?_)
  · replace hf := (if_pos (show ¬ x5 = 0 from c7)).symm.trans hf
    exact (pX24_isPlace_b23 hd hf).to trivial
  · replace hf := (if_neg (show ¬ (¬ x5 = 0) from (fun z => z c7))).symm.trans hf
    refine w_aload_n dX24_isPlace_12 rfl rfl ?_
    refine w_iload_n dX24_isPlace_13 rfl rfl ?_
    obtain ⟨_, b8, hf⟩ := Option.bind_eq_some_iff.mp hf
    refine x_cnI hf (e_stV (Yc := YX24_penaltyOf) (ci := 23) (av := [.int p0]) (st := []) dX24_isPlace_14 q3759 mX24_penaltyOf rfl (k_ok_some b8).1 (k_ok_some b8).2) mX24_penaltyOf.2.2.1 mX24_penaltyOf.2.2.2.2.1 (Nat.le_of_ble_eq_true rfl) (Nat.le_of_ble_eq_true rfl) (fun q hq => pX24_penaltyOf (by omega) hq) (fun q9 hf => ?_)
    refine w_sipush dX24_isPlace_17 (v := 10000) (by decide) ?_
    refine w_icmp_ne 25 dX24_isPlace_20 (by decide) (fun c10 => ?_) (fun c10 => ?_)
    · replace hf := (if_pos (show ¬ q9.1 = (10000 : Int32) from c10)).symm.trans hf
      refine w_aload_n dX24_isPlace_25 rfl rfl ?_
      obtain ⟨a11, b12, hf⟩ := Option.bind_eq_some_iff.mp hf
      refine GX24_33 b12 dX24_isPlace_26 rfl ?_
      obtain ⟨a13, b14, hf⟩ := Option.bind_eq_some_iff.mp hf
      refine GX24_47 b14 dX24_isPlace_29 rfl ?_
      refine w_iload_n dX24_isPlace_32 rfl rfl ?_
      obtain ⟨x15, b16, hf⟩ := Option.bind_eq_some_iff.mp hf
      refine x_rB b16 dX24_isPlace_33 ?_
      by_cases c17 : x15 = (1 : Int32)
      · replace hf := (if_pos c17).symm.trans hf
        refine w_tableIn 68 dX24_isPlace_34 (by rw [c17]; decide) (by rw [c17]; decide) (by rw [c17]; rfl) (by decide) ?_
        refine w_aload_n dX24_isPlace_68 rfl rfl ?_
        refine w_iload_n dX24_isPlace_69 rfl rfl ?_
        obtain ⟨_, b18, hf⟩ := Option.bind_eq_some_iff.mp hf
        refine x_cnI hf (e_stV (Yc := YX24_before) (ci := 23) (av := [.int p0]) (st := []) dX24_isPlace_70 q3764 mX24_before rfl (k_ok_some b18).1 (k_ok_some b18).2) mX24_before.2.2.1 mX24_before.2.2.2.2.1 (Nat.le_of_ble_eq_true rfl) (Nat.le_of_ble_eq_true rfl) (fun q hq => pX24_before (by omega) hq) (fun q19 hf => ?_)
        refine w_istore_n dX24_isPlace_73 rfl (by decide) (ls' := [some (.ref this), some (.int p0), some (.int q19.1)]) rfl ?_
        refine w_iload_n dX24_isPlace_74 rfl rfl ?_
        refine w_if_lt 120 dX24_isPlace_75 (by decide) (fun c20 => ?_) (fun c20 => ?_)
        · replace hf := (if_pos (show q19.1 < 0 from c20)).symm.trans hf
          exact (pX24_isPlace_b120 hd hf).to trivial
        · replace hf := (if_neg (show ¬ (q19.1 < 0) from c20)).symm.trans hf
          refine w_aload_n dX24_isPlace_78 rfl rfl ?_
          obtain ⟨a21, b22, hf⟩ := Option.bind_eq_some_iff.mp hf
          refine GX24_33 b22 dX24_isPlace_79 rfl ?_
          obtain ⟨a23, b24, hf⟩ := Option.bind_eq_some_iff.mp hf
          refine GX24_47 b24 dX24_isPlace_82 rfl ?_
          refine w_iload_n dX24_isPlace_85 rfl rfl ?_
          obtain ⟨x25, b26, hf⟩ := Option.bind_eq_some_iff.mp hf
          refine x_rB b26 dX24_isPlace_86 ?_
          refine w_if_eq 116 dX24_isPlace_87 (by decide) (fun c27 => ?_) (fun c27 => ?_)
          · replace hf := (if_pos (show x25 = 0 from c27)).symm.trans hf
            exact (pX24_isPlace_b116 hd hf).to trivial
          · replace hf := (if_neg (show ¬ (x25 = 0) from c27)).symm.trans hf
            refine w_aload_n dX24_isPlace_90 rfl rfl ?_
            obtain ⟨a28, b29, hf⟩ := Option.bind_eq_some_iff.mp hf
            refine GX24_33 b29 dX24_isPlace_91 rfl ?_
            obtain ⟨a30, b31, hf⟩ := Option.bind_eq_some_iff.mp hf
            refine GX24_47 b31 dX24_isPlace_94 rfl ?_
            refine w_iload_n dX24_isPlace_97 rfl rfl ?_
            obtain ⟨x32, b33, hf⟩ := Option.bind_eq_some_iff.mp hf
            refine x_rB b33 dX24_isPlace_98 ?_
            refine w_iconst dX24_isPlace_99 (v := 5) (by decide) ?_
            refine w_icmp_eq 116 dX24_isPlace_100 (by decide) (fun c34 => ?_) (fun c34 => ?_)
            · replace hf := (if_pos (show x32 = (5 : Int32) from c34)).symm.trans hf
              exact (pX24_isPlace_b116 hd hf).to trivial
            · replace hf := (if_neg (show ¬ (x32 = (5 : Int32)) from c34)).symm.trans hf
              refine w_aload_n dX24_isPlace_103 rfl rfl ?_
              obtain ⟨a35, b36, hf⟩ := Option.bind_eq_some_iff.mp hf
              refine GX24_33 b36 dX24_isPlace_104 rfl ?_
              obtain ⟨a37, b38, hf⟩ := Option.bind_eq_some_iff.mp hf
              refine GX24_47 b38 dX24_isPlace_107 rfl ?_
              refine w_iload_n dX24_isPlace_110 rfl rfl ?_
              obtain ⟨x39, b40, hf⟩ := Option.bind_eq_some_iff.mp hf
              refine x_rB b40 dX24_isPlace_111 ?_
              refine w_iconst dX24_isPlace_112 (v := 2) (by decide) ?_
              refine w_icmp_ne 120 dX24_isPlace_113 (by decide) (fun c41 => ?_) (fun c41 => ?_)
              · replace hf := (if_pos (show ¬ x39 = (2 : Int32) from c41)).symm.trans hf
                exact (pX24_isPlace_b120 hd hf).to trivial
              · replace hf := (if_neg (show ¬ (¬ x39 = (2 : Int32)) from (fun z => z c41))).symm.trans hf
                exact (pX24_isPlace_b116 hd hf).to trivial
      replace hf := (if_neg c17).symm.trans hf
      by_cases c42 : x15 = (2 : Int32)
      · replace hf := (if_pos c42).symm.trans hf
        refine w_tableIn 163 dX24_isPlace_34 (by rw [c42]; decide) (by rw [c42]; decide) (by rw [c42]; rfl) (by decide) ?_
        refine w_iconst dX24_isPlace_163 (v := 0) (by decide) ?_
        cases hf
        exact w_iret dX24_isPlace_164 rfl rfl rfl
      replace hf := (if_neg c42).symm.trans hf
      by_cases c43 : x15 = (3 : Int32)
      · replace hf := (if_pos c43).symm.trans hf
        refine w_tableIn 122 dX24_isPlace_34 (by rw [c43]; decide) (by rw [c43]; decide) (by rw [c43]; rfl) (by decide) ?_
        refine w_iload_n dX24_isPlace_122 rfl rfl ?_
        refine w_iconst dX24_isPlace_123 (v := 1) (by decide) ?_
        refine w_iadd dX24_isPlace_124 ?_
        refine w_aload_n dX24_isPlace_125 rfl rfl ?_
        obtain ⟨a44, b45, hf⟩ := Option.bind_eq_some_iff.mp hf
        refine GX24_33 b45 dX24_isPlace_126 rfl ?_
        obtain ⟨x46, b47, hf⟩ := Option.bind_eq_some_iff.mp hf
        refine GX24_70 b47 dX24_isPlace_129 rfl ?_
        refine w_icmp_ge 154 dX24_isPlace_132 (by decide) (fun c48 => ?_) (fun c48 => ?_)
        · replace hf := (if_pos (show x46 ≤ (p0 + (1 : Int32)) from c48)).symm.trans hf
          exact (pX24_isPlace_b154 hd hf).to trivial
        · replace hf := (if_neg (show ¬ (x46 ≤ (p0 + (1 : Int32))) from c48)).symm.trans hf
          refine w_aload_n dX24_isPlace_135 rfl rfl ?_
          obtain ⟨a49, b50, hf⟩ := Option.bind_eq_some_iff.mp hf
          refine GX24_33 b50 dX24_isPlace_136 rfl ?_
          obtain ⟨a51, b52, hf⟩ := Option.bind_eq_some_iff.mp hf
          refine GX24_47 b52 dX24_isPlace_139 rfl ?_
          refine w_iload_n dX24_isPlace_142 rfl rfl ?_
          refine w_iconst dX24_isPlace_143 (v := 1) (by decide) ?_
          refine w_iadd dX24_isPlace_144 ?_
          obtain ⟨x53, b54, hf⟩ := Option.bind_eq_some_iff.mp hf
          refine x_rB b54 dX24_isPlace_145 ?_
          refine w_iconst dX24_isPlace_146 (v := 1) (by decide) ?_
          refine w_icmp_ne 154 dX24_isPlace_147 (by decide) (fun c55 => ?_) (fun c55 => ?_)
          · replace hf := (if_pos (show ¬ x53 = (1 : Int32) from c55)).symm.trans hf
            exact (pX24_isPlace_b154 hd hf).to trivial
          · replace hf := (if_neg (show ¬ (¬ x53 = (1 : Int32)) from (fun z => z c55))).symm.trans hf
            refine w_iconst dX24_isPlace_150 (v := 1) (by decide) ?_
            refine w_goto 155 dX24_isPlace_151 (by decide) ?_
            exact (pX24_isPlace_b155 hd hf).to trivial
      replace hf := (if_neg c43).symm.trans hf
      by_cases c56 : x15 = (4 : Int32)
      · replace hf := (if_pos c56).symm.trans hf
        refine w_tableIn 156 dX24_isPlace_34 (by rw [c56]; decide) (by rw [c56]; decide) (by rw [c56]; rfl) (by decide) ?_
        refine w_iconst dX24_isPlace_156 (v := 1) (by decide) ?_
        cases hf
        exact w_iret dX24_isPlace_157 rfl rfl rfl
      replace hf := (if_neg c56).symm.trans hf
      by_cases c57 : x15 = (5 : Int32)
      · replace hf := (if_pos c57).symm.trans hf
        refine w_tableIn 158 dX24_isPlace_34 (by rw [c57]; decide) (by rw [c57]; decide) (by rw [c57]; rfl) (by decide) ?_
        refine w_aload_n dX24_isPlace_158 rfl rfl ?_
        obtain ⟨x58, b59, hf⟩ := Option.bind_eq_some_iff.mp hf
        refine GX24_74 b59 dX24_isPlace_159 rfl ?_
        obtain ⟨b60, rfl⟩ := z_r_some hf
        exact w_iret dX24_isPlace_162 rfl b60 rfl
      replace hf := (if_neg c57).symm.trans hf
      refine w_tableOut 163 dX24_isPlace_34 (by have n0 := sw_ne c17 (by decide : (1 : Int32).toInt = 1); have n1 := sw_ne c42 (by decide : (2 : Int32).toInt = 2); have n2 := sw_ne c43 (by decide : (3 : Int32).toInt = 3); have n3 := sw_ne c56 (by decide : (4 : Int32).toInt = 4); have n4 := sw_ne c57 (by decide : (5 : Int32).toInt = 5); omega) (by decide) ?_
      refine w_iconst dX24_isPlace_163 (v := 0) (by decide) ?_
      cases hf
      exact w_iret dX24_isPlace_164 rfl rfl rfl
    · replace hf := (if_neg (show ¬ (¬ q9.1 = (10000 : Int32)) from (fun z => z c10))).symm.trans hf
      exact (pX24_isPlace_b23 hd hf).to trivial
abbrev cX23_stretched : ByteArray := prog_15_method_4_code
def yX23_stretched : MethodName := ⟨RX23, "stretched", "(III)J"⟩
def YX23_stretched : eY := (yX23_stretched, cX23_stretched, 4, (Option.some FieldType.long), [])
theorem mX23_stretched : e_mv YX23_stretched RX23 3 := ⟨q3779, qs171, q3780, by decide, by decide +kernel, (e_sig (by decide +kernel))⟩
theorem dX23_stretched_0 : decode cX23_stretched 0 = .ok (.aload_n 0, 1) := dc_42 (by decide +kernel)
theorem dX23_stretched_1 : decode cX23_stretched 1 = .ok (.getfield 29, 3) := dc_180 (a := 0) (b := 29) (n := 29) (by decide +kernel)
theorem dX23_stretched_4 : decode cX23_stretched 4 = .ok (.iload_n 1, 1) := dc_27 (by decide +kernel)
theorem dX23_stretched_5 : decode cX23_stretched 5 = .ok (.laload, 1) := dc_47 (by decide +kernel)
theorem dX23_stretched_6 : decode cX23_stretched 6 = .ok (.aload_n 0, 1) := dc_42 (by decide +kernel)
theorem dX23_stretched_7 : decode cX23_stretched 7 = .ok (.getfield 18, 3) := dc_180 (a := 0) (b := 18) (n := 18) (by decide +kernel)
theorem dX23_stretched_10 : decode cX23_stretched 10 = .ok (.iconst 4, 1) := dc_7 (by decide +kernel)
theorem dX23_stretched_11 : decode cX23_stretched 11 = .ok (.iload_n 3, 1) := dc_29 (by decide +kernel)
theorem dX23_stretched_12 : decode cX23_stretched 12 = .ok (.imul, 1) := dc_104 (by decide +kernel)
theorem dX23_stretched_13 : decode cX23_stretched 13 = .ok (.iload_n 1, 1) := dc_27 (by decide +kernel)
theorem dX23_stretched_14 : decode cX23_stretched 14 = .ok (.iadd, 1) := dc_96 (by decide +kernel)
theorem dX23_stretched_15 : decode cX23_stretched 15 = .ok (.laload, 1) := dc_47 (by decide +kernel)
theorem dX23_stretched_16 : decode cX23_stretched 16 = .ok (.ladd, 1) := dc_97 (by decide +kernel)
theorem dX23_stretched_17 : decode cX23_stretched 17 = .ok (.aload_n 0, 1) := dc_42 (by decide +kernel)
theorem dX23_stretched_18 : decode cX23_stretched 18 = .ok (.getfield 18, 3) := dc_180 (a := 0) (b := 18) (n := 18) (by decide +kernel)
theorem dX23_stretched_21 : decode cX23_stretched 21 = .ok (.iconst 4, 1) := dc_7 (by decide +kernel)
theorem dX23_stretched_22 : decode cX23_stretched 22 = .ok (.iload_n 2, 1) := dc_28 (by decide +kernel)
theorem dX23_stretched_23 : decode cX23_stretched 23 = .ok (.imul, 1) := dc_104 (by decide +kernel)
theorem dX23_stretched_24 : decode cX23_stretched 24 = .ok (.iload_n 1, 1) := dc_27 (by decide +kernel)
theorem dX23_stretched_25 : decode cX23_stretched 25 = .ok (.iadd, 1) := dc_96 (by decide +kernel)
theorem dX23_stretched_26 : decode cX23_stretched 26 = .ok (.laload, 1) := dc_47 (by decide +kernel)
theorem dX23_stretched_27 : decode cX23_stretched 27 = .ok (.lsub, 1) := dc_101 (by decide +kernel)
theorem dX23_stretched_28 : decode cX23_stretched 28 = .ok (.lreturn, 1) := dc_173 (by decide +kernel)
theorem GX23_29 {w : eW} {d : Nat} {Y : eY} {pc : Nat} {ls : eL} {st : List Value} {h : eH} {Q : eO → eH → Prop} {a : Nat} {x : Nat} (hf : g_A 22 h a 5 = some x) (hd : decode Y.2.1 pc = .ok (.getfield 29, 3)) (hY : Y.1.cls = RX23) (kk : wp w d Y (pc + 3) ls (.ref x :: st) h Q) : wp w d Y pc ls (.ref a :: st) h Q := x_gA (ci := 22) (k := 5) hf hd rfl (by decide) (by rw [hY]; exact q1290) kk
def fX23_stretched (this : Nat) (p0 : Int32) (p1 : Int32) (p2 : Int32) (h : eH) : Option (Int64 × eH) :=
  (g_A 22 h this 5).bind fun a1 =>
  (r_J h a1 p0).bind fun x3 =>
  (g_A 22 h this 2).bind fun a5 =>
  (r_J h a5 (((4 : Int32) * p2) + p0)).bind fun x7 =>
  (g_A 22 h this 2).bind fun a9 =>
  (r_J h a9 (((4 : Int32) * p1) + p0)).bind fun x11 =>
  some (((x3 + x7) - x11), h)
theorem pX23_stretched {w : eW} {d : Nat} (hd : 0 ≤ d) {this : Nat} {p0 : Int32} {p1 : Int32} {p2 : Int32} {h : eH} {q} (hf : fX23_stretched this p0 p1 p2 h = some q) : wm w d YX23_stretched [.ref this, .int p0, .int p1, .int p2] h (e_is (e_rn c_J q)) := by
  show wp w d YX23_stretched 0 [some (.ref this), some (.int p0), some (.int p1), some (.int p2)] [] h _
  unfold fX23_stretched at hf
  refine w_aload_n dX23_stretched_0 rfl rfl ?_
  obtain ⟨a1, b2, hf⟩ := Option.bind_eq_some_iff.mp hf
  refine GX23_29 b2 dX23_stretched_1 rfl ?_
  refine w_iload_n dX23_stretched_4 rfl rfl ?_
  obtain ⟨x3, b4, hf⟩ := Option.bind_eq_some_iff.mp hf
  refine x_rJ b4 dX23_stretched_5 ?_
  refine w_aload_n dX23_stretched_6 rfl rfl ?_
  obtain ⟨a5, b6, hf⟩ := Option.bind_eq_some_iff.mp hf
  refine GX23_18 b6 dX23_stretched_7 rfl ?_
  refine w_iconst dX23_stretched_10 (v := 4) (by decide) ?_
  refine w_iload_n dX23_stretched_11 rfl rfl ?_
  refine w_imul dX23_stretched_12 ?_
  refine w_iload_n dX23_stretched_13 rfl rfl ?_
  refine w_iadd dX23_stretched_14 ?_
  obtain ⟨x7, b8, hf⟩ := Option.bind_eq_some_iff.mp hf
  refine x_rJ b8 dX23_stretched_15 ?_
  refine w_ladd dX23_stretched_16 ?_
  refine w_aload_n dX23_stretched_17 rfl rfl ?_
  obtain ⟨a9, b10, hf⟩ := Option.bind_eq_some_iff.mp hf
  refine GX23_18 b10 dX23_stretched_18 rfl ?_
  refine w_iconst dX23_stretched_21 (v := 4) (by decide) ?_
  refine w_iload_n dX23_stretched_22 rfl rfl ?_
  refine w_imul dX23_stretched_23 ?_
  refine w_iload_n dX23_stretched_24 rfl rfl ?_
  refine w_iadd dX23_stretched_25 ?_
  obtain ⟨x11, b12, hf⟩ := Option.bind_eq_some_iff.mp hf
  refine x_rJ b12 dX23_stretched_26 ?_
  refine w_lsub dX23_stretched_27 ?_
  cases hf
  exact w_lret dX23_stretched_28 rfl rfl
abbrev cX23_measure : ByteArray := prog_15_method_3_code
def yX23_measure : MethodName := ⟨RX23, "measure", "(LTypeHouse$Paragraph;II)V"⟩
def YX23_measure : eY := (yX23_measure, cX23_measure, 7, none, [])
theorem mX23_measure : e_mv YX23_measure RX23 3 := ⟨q3773, q3774, q3775, by decide, by decide +kernel, (e_sig (by decide +kernel))⟩
theorem dX23_measure_0 : decode cX23_measure 0 = .ok (.iload_n 2, 1) := dc_28 (by decide +kernel)
theorem dX23_measure_1 : decode cX23_measure 1 = .ok (.iconst (-1), 1) := dc_2 (by decide +kernel)
theorem dX23_measure_2 : decode cX23_measure 2 = .ok (.if_icmp .ne 7, 3) := dc_160 (a := 0) (b := 7) (v := 7) (by decide +kernel)
theorem dX23_measure_5 : decode cX23_measure 5 = .ok (.iconst 0, 1) := dc_3 (by decide +kernel)
theorem dX23_measure_6 : decode cX23_measure 6 = .ok (.goto 9, 3) := dc_167 (a := 0) (b := 9) (v := 9) (by decide +kernel)
theorem dX23_measure_9 : decode cX23_measure 9 = .ok (.aload_n 0, 1) := dc_42 (by decide +kernel)
theorem dX23_measure_10 : decode cX23_measure 10 = .ok (.getfield 25, 3) := dc_180 (a := 0) (b := 25) (n := 25) (by decide +kernel)
theorem dX23_measure_13 : decode cX23_measure 13 = .ok (.iload_n 2, 1) := dc_28 (by decide +kernel)
theorem dX23_measure_14 : decode cX23_measure 14 = .ok (.iaload, 1) := dc_46 (by decide +kernel)
theorem dX23_measure_15 : decode cX23_measure 15 = .ok (.istore 4, 2) := dc_54 (a := 4) (by decide +kernel)
theorem dX23_measure_17 : decode cX23_measure 17 = .ok (.iload 4, 2) := dc_21 (a := 4) (by decide +kernel)
theorem dX23_measure_19 : decode cX23_measure 19 = .ok (.iload_n 3, 1) := dc_29 (by decide +kernel)
theorem dX23_measure_20 : decode cX23_measure 20 = .ok (.invokestatic 54, 3) := dc_184 (a := 0) (b := 54) (n := 54) (by decide +kernel)
theorem dX23_measure_23 : decode cX23_measure 23 = .ok (.istore 5, 2) := dc_54 (a := 5) (by decide +kernel)
theorem dX23_measure_25 : decode cX23_measure 25 = .ok (.aload_n 0, 1) := dc_42 (by decide +kernel)
theorem dX23_measure_26 : decode cX23_measure 26 = .ok (.aload_n 0, 1) := dc_42 (by decide +kernel)
theorem dX23_measure_27 : decode cX23_measure 27 = .ok (.getfield 65, 3) := dc_180 (a := 0) (b := 65) (n := 65) (by decide +kernel)
theorem dX23_measure_30 : decode cX23_measure 30 = .ok (.aload_n 0, 1) := dc_42 (by decide +kernel)
theorem dX23_measure_31 : decode cX23_measure 31 = .ok (.getfield 9, 3) := dc_180 (a := 0) (b := 9) (n := 9) (by decide +kernel)
theorem dX23_measure_34 : decode cX23_measure 34 = .ok (.iload 5, 2) := dc_21 (a := 5) (by decide +kernel)
theorem dX23_measure_36 : decode cX23_measure 36 = .ok (.laload, 1) := dc_47 (by decide +kernel)
theorem dX23_measure_37 : decode cX23_measure 37 = .ok (.ladd, 1) := dc_97 (by decide +kernel)
theorem dX23_measure_38 : decode cX23_measure 38 = .ok (.aload_n 0, 1) := dc_42 (by decide +kernel)
theorem dX23_measure_39 : decode cX23_measure 39 = .ok (.getfield 9, 3) := dc_180 (a := 0) (b := 9) (n := 9) (by decide +kernel)
theorem dX23_measure_42 : decode cX23_measure 42 = .ok (.iload 4, 2) := dc_21 (a := 4) (by decide +kernel)
theorem dX23_measure_44 : decode cX23_measure 44 = .ok (.laload, 1) := dc_47 (by decide +kernel)
theorem dX23_measure_45 : decode cX23_measure 45 = .ok (.lsub, 1) := dc_101 (by decide +kernel)
theorem dX23_measure_46 : decode cX23_measure 46 = .ok (.putfield 69, 3) := dc_181 (a := 0) (b := 69) (n := 69) (by decide +kernel)
theorem dX23_measure_49 : decode cX23_measure 49 = .ok (.iload_n 2, 1) := dc_28 (by decide +kernel)
theorem dX23_measure_50 : decode cX23_measure 50 = .ok (.iconst (-1), 1) := dc_2 (by decide +kernel)
theorem dX23_measure_51 : decode cX23_measure 51 = .ok (.if_icmp .eq 32, 3) := dc_159 (a := 0) (b := 32) (v := 32) (by decide +kernel)
theorem dX23_measure_54 : decode cX23_measure 54 = .ok (.aload_n 1, 1) := dc_43 (by decide +kernel)
theorem dX23_measure_55 : decode cX23_measure 55 = .ok (.getfield 38, 3) := dc_180 (a := 0) (b := 38) (n := 38) (by decide +kernel)
theorem dX23_measure_58 : decode cX23_measure 58 = .ok (.iload_n 2, 1) := dc_28 (by decide +kernel)
theorem dX23_measure_59 : decode cX23_measure 59 = .ok (.baload, 1) := dc_51 (by decide +kernel)
theorem dX23_measure_60 : decode cX23_measure 60 = .ok (.iconst 5, 1) := dc_8 (by decide +kernel)
theorem dX23_measure_61 : decode cX23_measure 61 = .ok (.if_icmp .ne 22, 3) := dc_160 (a := 0) (b := 22) (v := 22) (by decide +kernel)
theorem dX23_measure_64 : decode cX23_measure 64 = .ok (.aload_n 0, 1) := dc_42 (by decide +kernel)
theorem dX23_measure_65 : decode cX23_measure 65 = .ok (.dup, 1) := dc_89 (by decide +kernel)
theorem dX23_measure_66 : decode cX23_measure 66 = .ok (.getfield 69, 3) := dc_180 (a := 0) (b := 69) (n := 69) (by decide +kernel)
theorem dX23_measure_69 : decode cX23_measure 69 = .ok (.aload_n 1, 1) := dc_43 (by decide +kernel)
theorem dX23_measure_70 : decode cX23_measure 70 = .ok (.getfield 51, 3) := dc_180 (a := 0) (b := 51) (n := 51) (by decide +kernel)
theorem dX23_measure_73 : decode cX23_measure 73 = .ok (.iload_n 2, 1) := dc_28 (by decide +kernel)
theorem dX23_measure_74 : decode cX23_measure 74 = .ok (.iaload, 1) := dc_46 (by decide +kernel)
theorem dX23_measure_75 : decode cX23_measure 75 = .ok (.invokestatic 72, 3) := dc_184 (a := 0) (b := 72) (n := 72) (by decide +kernel)
theorem dX23_measure_78 : decode cX23_measure 78 = .ok (.i2l, 1) := dc_133 (by decide +kernel)
theorem dX23_measure_79 : decode cX23_measure 79 = .ok (.ladd, 1) := dc_97 (by decide +kernel)
theorem dX23_measure_80 : decode cX23_measure 80 = .ok (.putfield 69, 3) := dc_181 (a := 0) (b := 69) (n := 69) (by decide +kernel)
theorem dX23_measure_83 : decode cX23_measure 83 = .ok (.aload_n 1, 1) := dc_43 (by decide +kernel)
theorem dX23_measure_84 : decode cX23_measure 84 = .ok (.getfield 38, 3) := dc_180 (a := 0) (b := 38) (n := 38) (by decide +kernel)
theorem dX23_measure_87 : decode cX23_measure 87 = .ok (.iload_n 3, 1) := dc_29 (by decide +kernel)
theorem dX23_measure_88 : decode cX23_measure 88 = .ok (.baload, 1) := dc_51 (by decide +kernel)
theorem dX23_measure_89 : decode cX23_measure 89 = .ok (.iconst 5, 1) := dc_8 (by decide +kernel)
theorem dX23_measure_90 : decode cX23_measure 90 = .ok (.if_icmp .ne 22, 3) := dc_160 (a := 0) (b := 22) (v := 22) (by decide +kernel)
theorem dX23_measure_93 : decode cX23_measure 93 = .ok (.aload_n 0, 1) := dc_42 (by decide +kernel)
theorem dX23_measure_94 : decode cX23_measure 94 = .ok (.dup, 1) := dc_89 (by decide +kernel)
theorem dX23_measure_95 : decode cX23_measure 95 = .ok (.getfield 69, 3) := dc_180 (a := 0) (b := 69) (n := 69) (by decide +kernel)
theorem dX23_measure_98 : decode cX23_measure 98 = .ok (.aload_n 1, 1) := dc_43 (by decide +kernel)
theorem dX23_measure_99 : decode cX23_measure 99 = .ok (.getfield 42, 3) := dc_180 (a := 0) (b := 42) (n := 42) (by decide +kernel)
theorem dX23_measure_102 : decode cX23_measure 102 = .ok (.iload_n 3, 1) := dc_29 (by decide +kernel)
theorem dX23_measure_103 : decode cX23_measure 103 = .ok (.iaload, 1) := dc_46 (by decide +kernel)
theorem dX23_measure_104 : decode cX23_measure 104 = .ok (.invokestatic 72, 3) := dc_184 (a := 0) (b := 72) (n := 72) (by decide +kernel)
theorem dX23_measure_107 : decode cX23_measure 107 = .ok (.i2l, 1) := dc_133 (by decide +kernel)
theorem dX23_measure_108 : decode cX23_measure 108 = .ok (.ladd, 1) := dc_97 (by decide +kernel)
theorem dX23_measure_109 : decode cX23_measure 109 = .ok (.putfield 69, 3) := dc_181 (a := 0) (b := 69) (n := 69) (by decide +kernel)
theorem dX23_measure_112 : decode cX23_measure 112 = .ok (.aload_n 0, 1) := dc_42 (by decide +kernel)
theorem dX23_measure_113 : decode cX23_measure 113 = .ok (.aload_n 0, 1) := dc_42 (by decide +kernel)
theorem dX23_measure_114 : decode cX23_measure 114 = .ok (.getfield 76, 3) := dc_180 (a := 0) (b := 76) (n := 76) (by decide +kernel)
theorem dX23_measure_117 : decode cX23_measure 117 = .ok (.aload_n 0, 1) := dc_42 (by decide +kernel)
theorem dX23_measure_118 : decode cX23_measure 118 = .ok (.getfield 15, 3) := dc_180 (a := 0) (b := 15) (n := 15) (by decide +kernel)
theorem dX23_measure_121 : decode cX23_measure 121 = .ok (.iload 5, 2) := dc_21 (a := 5) (by decide +kernel)
theorem dX23_measure_123 : decode cX23_measure 123 = .ok (.laload, 1) := dc_47 (by decide +kernel)
theorem dX23_measure_124 : decode cX23_measure 124 = .ok (.ladd, 1) := dc_97 (by decide +kernel)
theorem dX23_measure_125 : decode cX23_measure 125 = .ok (.aload_n 0, 1) := dc_42 (by decide +kernel)
theorem dX23_measure_126 : decode cX23_measure 126 = .ok (.getfield 15, 3) := dc_180 (a := 0) (b := 15) (n := 15) (by decide +kernel)
theorem dX23_measure_129 : decode cX23_measure 129 = .ok (.iload 4, 2) := dc_21 (a := 4) (by decide +kernel)
theorem dX23_measure_131 : decode cX23_measure 131 = .ok (.laload, 1) := dc_47 (by decide +kernel)
theorem dX23_measure_132 : decode cX23_measure 132 = .ok (.lsub, 1) := dc_101 (by decide +kernel)
theorem dX23_measure_133 : decode cX23_measure 133 = .ok (.putfield 79, 3) := dc_181 (a := 0) (b := 79) (n := 79) (by decide +kernel)
theorem dX23_measure_136 : decode cX23_measure 136 = .ok (.aload_n 0, 1) := dc_42 (by decide +kernel)
theorem dX23_measure_137 : decode cX23_measure 137 = .ok (.aload_n 0, 1) := dc_42 (by decide +kernel)
theorem dX23_measure_138 : decode cX23_measure 138 = .ok (.iconst 0, 1) := dc_3 (by decide +kernel)
theorem dX23_measure_139 : decode cX23_measure 139 = .ok (.iload 4, 2) := dc_21 (a := 4) (by decide +kernel)
theorem dX23_measure_141 : decode cX23_measure 141 = .ok (.iload 5, 2) := dc_21 (a := 5) (by decide +kernel)
theorem dX23_measure_143 : decode cX23_measure 143 = .ok (.invokevirtual 82, 3) := dc_182 (a := 0) (b := 82) (n := 82) (by decide +kernel)
theorem dX23_measure_146 : decode cX23_measure 146 = .ok (.putfield 86, 3) := dc_181 (a := 0) (b := 86) (n := 86) (by decide +kernel)
theorem dX23_measure_149 : decode cX23_measure 149 = .ok (.aload_n 0, 1) := dc_42 (by decide +kernel)
theorem dX23_measure_150 : decode cX23_measure 150 = .ok (.iconst 0, 1) := dc_3 (by decide +kernel)
theorem dX23_measure_151 : decode cX23_measure 151 = .ok (.putfield 89, 3) := dc_181 (a := 0) (b := 89) (n := 89) (by decide +kernel)
theorem dX23_measure_154 : decode cX23_measure 154 = .ok (.iconst 1, 1) := dc_4 (by decide +kernel)
theorem dX23_measure_155 : decode cX23_measure 155 = .ok (.istore 6, 2) := dc_54 (a := 6) (by decide +kernel)
theorem dX23_measure_157 : decode cX23_measure 157 = .ok (.iload 6, 2) := dc_21 (a := 6) (by decide +kernel)
theorem dX23_measure_159 : decode cX23_measure 159 = .ok (.iconst 4, 1) := dc_7 (by decide +kernel)
theorem dX23_measure_160 : decode cX23_measure 160 = .ok (.if_icmp .ge 38, 3) := dc_162 (a := 0) (b := 38) (v := 38) (by decide +kernel)
theorem dX23_measure_163 : decode cX23_measure 163 = .ok (.aload_n 0, 1) := dc_42 (by decide +kernel)
theorem dX23_measure_164 : decode cX23_measure 164 = .ok (.dup, 1) := dc_89 (by decide +kernel)
theorem dX23_measure_165 : decode cX23_measure 165 = .ok (.getfield 89, 3) := dc_180 (a := 0) (b := 89) (n := 89) (by decide +kernel)
theorem dX23_measure_168 : decode cX23_measure 168 = .ok (.aload_n 0, 1) := dc_42 (by decide +kernel)
theorem dX23_measure_169 : decode cX23_measure 169 = .ok (.iload 6, 2) := dc_21 (a := 6) (by decide +kernel)
theorem dX23_measure_171 : decode cX23_measure 171 = .ok (.iload 4, 2) := dc_21 (a := 4) (by decide +kernel)
theorem dX23_measure_173 : decode cX23_measure 173 = .ok (.iload 5, 2) := dc_21 (a := 5) (by decide +kernel)
theorem dX23_measure_175 : decode cX23_measure 175 = .ok (.invokevirtual 82, 3) := dc_182 (a := 0) (b := 82) (n := 82) (by decide +kernel)
theorem dX23_measure_178 : decode cX23_measure 178 = .ok (.lconst 0, 1) := dc_9 (by decide +kernel)
theorem dX23_measure_179 : decode cX23_measure 179 = .ok (.lcmp, 1) := dc_148 (by decide +kernel)
theorem dX23_measure_180 : decode cX23_measure 180 = .ok (.ifCond .le 7, 3) := dc_158 (a := 0) (b := 7) (v := 7) (by decide +kernel)
theorem dX23_measure_183 : decode cX23_measure 183 = .ok (.iconst 1, 1) := dc_4 (by decide +kernel)
theorem dX23_measure_184 : decode cX23_measure 184 = .ok (.goto 4, 3) := dc_167 (a := 0) (b := 4) (v := 4) (by decide +kernel)
theorem dX23_measure_187 : decode cX23_measure 187 = .ok (.iconst 0, 1) := dc_3 (by decide +kernel)
theorem dX23_measure_188 : decode cX23_measure 188 = .ok (.ior, 1) := dc_128 (by decide +kernel)
theorem dX23_measure_189 : decode cX23_measure 189 = .ok (.putfield 89, 3) := dc_181 (a := 0) (b := 89) (n := 89) (by decide +kernel)
theorem dX23_measure_192 : decode cX23_measure 192 = .ok (.iinc 6 1, 3) := dc_132 (a := 6) (b := 1) (v := 1) (by decide +kernel)
theorem dX23_measure_195 : decode cX23_measure 195 = .ok (.goto (-38), 3) := dc_167 (a := 255) (b := 218) (v := -38) (by decide +kernel)
theorem dX23_measure_198 : decode cX23_measure 198 = .ok (.return_, 1) := dc_177 (by decide +kernel)
theorem GX23_65 {w : eW} {d : Nat} {Y : eY} {pc : Nat} {ls : eL} {st : List Value} {h : eH} {Q : eO → eH → Prop} {a : Nat} {x : Int64} (hf : g_J 22 h a 6 = some x) (hd : decode Y.2.1 pc = .ok (.getfield 65, 3)) (hY : Y.1.cls = RX23) (kk : wp w d Y (pc + 3) ls (.long x :: st) h Q) : wp w d Y pc ls (.ref a :: st) h Q := x_gJ (ci := 22) (k := 6) hf hd rfl (by decide) (by rw [hY]; exact q1292) kk
theorem GX23_69 {w : eW} {d : Nat} {Y : eY} {pc : Nat} {ls : eL} {st : List Value} {h : eH} {Q : eO → eH → Prop} {a : Nat} {x : Int64} (hf : g_J 22 h a 8 = some x) (hd : decode Y.2.1 pc = .ok (.getfield 69, 3)) (hY : Y.1.cls = RX23) (kk : wp w d Y (pc + 3) ls (.long x :: st) h Q) : wp w d Y pc ls (.ref a :: st) h Q := x_gJ (ci := 22) (k := 8) hf hd rfl (by decide) (by rw [hY]; exact q1296) kk
theorem GX23_76 {w : eW} {d : Nat} {Y : eY} {pc : Nat} {ls : eL} {st : List Value} {h : eH} {Q : eO → eH → Prop} {a : Nat} {x : Int64} (hf : g_J 22 h a 7 = some x) (hd : decode Y.2.1 pc = .ok (.getfield 76, 3)) (hY : Y.1.cls = RX23) (kk : wp w d Y (pc + 3) ls (.long x :: st) h Q) : wp w d Y pc ls (.ref a :: st) h Q := x_gJ (ci := 22) (k := 7) hf hd rfl (by decide) (by rw [hY]; exact q1294) kk
theorem GX23_89 {w : eW} {d : Nat} {Y : eY} {pc : Nat} {ls : eL} {st : List Value} {h : eH} {Q : eO → eH → Prop} {a : Nat} {x : Int32} (hf : g_I 22 h a 11 = some x) (hd : decode Y.2.1 pc = .ok (.getfield 89, 3)) (hY : Y.1.cls = RX23) (kk : wp w d Y (pc + 3) ls (.int x :: st) h Q) : wp w d Y pc ls (.ref a :: st) h Q := x_gI (ci := 22) (k := 11) hf hd rfl (by decide) (by rw [hY]; exact q1303) kk
theorem SX23_69 {w : eW} {d : Nat} {Y : eY} {pc : Nat} {ls : eL} {st : List Value} {h : eH} {Q : eO → eH → Prop} {a : Nat} {h' : eH} {x : Int64} (hf : p_V 22 h a 8 (.long x) = some h') (hd : decode Y.2.1 pc = .ok (.putfield 69, 3)) (hY : Y.1.cls = RX23) (kk : wp w d Y (pc + 3) ls st h' Q) : wp w d Y pc ls (.long x :: .ref a :: st) h Q := x_pJ (ci := 22) (k := 8) hf hd rfl (by decide) (by rw [hY]; exact q1296) rfl rfl kk
theorem SX23_79 {w : eW} {d : Nat} {Y : eY} {pc : Nat} {ls : eL} {st : List Value} {h : eH} {Q : eO → eH → Prop} {a : Nat} {h' : eH} {x : Int64} (hf : p_V 22 h a 9 (.long x) = some h') (hd : decode Y.2.1 pc = .ok (.putfield 79, 3)) (hY : Y.1.cls = RX23) (kk : wp w d Y (pc + 3) ls st h' Q) : wp w d Y pc ls (.long x :: .ref a :: st) h Q := x_pJ (ci := 22) (k := 9) hf hd rfl (by decide) (by rw [hY]; exact q1299) rfl rfl kk
theorem SX23_86 {w : eW} {d : Nat} {Y : eY} {pc : Nat} {ls : eL} {st : List Value} {h : eH} {Q : eO → eH → Prop} {a : Nat} {h' : eH} {x : Int64} (hf : p_V 22 h a 10 (.long x) = some h') (hd : decode Y.2.1 pc = .ok (.putfield 86, 3)) (hY : Y.1.cls = RX23) (kk : wp w d Y (pc + 3) ls st h' Q) : wp w d Y pc ls (.long x :: .ref a :: st) h Q := x_pJ (ci := 22) (k := 10) hf hd rfl (by decide) (by rw [hY]; exact q1301) rfl rfl kk
theorem SX23_89 {w : eW} {d : Nat} {Y : eY} {pc : Nat} {ls : eL} {st : List Value} {h : eH} {Q : eO → eH → Prop} {a : Nat} {h' : eH} {x : Int32} (hf : p_Z 22 h a 11 x = some h') (hd : decode Y.2.1 pc = .ok (.putfield 89, 3)) (hY : Y.1.cls = RX23) (kk : wp w d Y (pc + 3) ls st h' Q) : wp w d Y pc ls (.int x :: .ref a :: st) h Q := x_pZ (ci := 22) (k := 11) hf hd rfl (by decide) (by rw [hY]; exact q1303) rfl rfl kk
def fX23_measure_b188 (N : Nat) (k157 : Nat → Int32 → Int32 → Int32 → eH → Option (Unit × eH)) (l0 : Nat) (l4 : Int32) (l5 : Int32) (l6 : Int32) (s0 : Nat) (s1 : Int32) (s2 : Int32) (h : eH) : Option (Unit × eH) :=
  (p_Z 22 h s0 11 (s1 ||| s2)).bind fun h1 =>
  k157 l0 l4 l5 (l6 + (1 : Int32)) h1
theorem pX23_measure_b188 {w : eW} {d : Nat} (hd : 1 ≤ d + 1) {N : Nat} {k157 : Nat → Int32 → Int32 → Int32 → eH → Option (Unit × eH)} (hk157 : ∀ l0 l4 l5 l6 h q, k157 l0 l4 l5 l6 h = some q → wp w (d + 1) YX23_measure 157 [some (.ref l0), none, none, none, some (.int l4), some (.int l5), some (.int l6)] [] h (e_is (e_rn c_V q))) {l0 : Nat} {l4 : Int32} {l5 : Int32} {l6 : Int32} {s0 : Nat} {s1 : Int32} {s2 : Int32} {h : eH} {q} (hf : fX23_measure_b188 N k157 l0 l4 l5 l6 s0 s1 s2 h = some q) : wp w (d + 1) YX23_measure 188 [some (.ref l0), none, none, none, some (.int l4), some (.int l5), some (.int l6)] [.int s2, .int s1, .ref s0] h (e_is (e_rn c_V q)) := by
  unfold fX23_measure_b188 at hf
  refine w_ior dX23_measure_188 ?_
  obtain ⟨h1, b2, hf⟩ := Option.bind_eq_some_iff.mp hf
  refine SX23_89 b2 dX23_measure_189 rfl ?_
  refine w_iinc dX23_measure_192 (v := (l6 + (1 : Int32))) rfl rfl (by decide) (ls' := [some (.ref l0), none, none, none, some (.int l4), some (.int l5), some (.int (l6 + (1 : Int32)))]) rfl ?_
  refine w_goto 157 dX23_measure_195 (by decide) ?_
  exact (hk157 _ _ _ _ _ _ hf).to ⟨rfl, rfl, rfl, rfl, trivial⟩
def fX23_measure_b157 (N : Nat) : Nat → Nat → Int32 → Int32 → Int32 → eH → Option (Unit × eH)
  | 0, _, _, _, _, _ => none
  | n + 1, l0, l4, l5, l6, h =>
    if (4 : Int32) ≤ l6 then
      some ((), h)
    else
      (g_I 22 h l0 11).bind fun x2 =>
      (k_ok 22 h l0).bind fun _ =>
      (fX23_stretched l0 l6 l4 l5 h).bind fun q5 =>
      if (lg_cmp q5.1 (0 : Int64)) ≤ 0 then
        fX23_measure_b188 N (fX23_measure_b157 N n) l0 l4 l5 l6 l0 x2 (0 : Int32) q5.2
      else
        fX23_measure_b188 N (fX23_measure_b157 N n) l0 l4 l5 l6 l0 x2 (1 : Int32) q5.2
theorem pX23_measure_b157 {w : eW} {d : Nat} (hd : 1 ≤ d + 1) {N : Nat} : ∀ (n : Nat) l0 l4 l5 l6 h q, fX23_measure_b157 N n l0 l4 l5 l6 h = some q → wp w (d + 1) YX23_measure 157 [some (.ref l0), none, none, none, some (.int l4), some (.int l5), some (.int l6)] [] h (e_is (e_rn c_V q)) := by
  intro n
  induction n with
  | zero => intro l0 l4 l5 l6 h q hf; simp [fX23_measure_b157] at hf
  | succ n ih =>
    intro l0 l4 l5 l6 h q hf
    rw [fX23_measure_b157] at hf
    refine w_iload dX23_measure_157 rfl ?_
    refine w_iconst dX23_measure_159 (v := 4) (by decide) ?_
    refine w_icmp_ge 198 dX23_measure_160 (by decide) (fun c1 => ?_) (fun c1 => ?_)
    · replace hf := (if_pos (show (4 : Int32) ≤ l6 from c1)).symm.trans hf
      cases hf
      exact w_vret dX23_measure_198 rfl rfl
    · replace hf := (if_neg (show ¬ ((4 : Int32) ≤ l6) from c1)).symm.trans hf
      refine w_aload_n dX23_measure_163 rfl rfl ?_
      refine w_dup dX23_measure_164 rfl ?_
      obtain ⟨x2, b3, hf⟩ := Option.bind_eq_some_iff.mp hf
      refine GX23_89 b3 dX23_measure_165 rfl ?_
      refine w_aload_n dX23_measure_168 rfl rfl ?_
      refine w_iload dX23_measure_169 rfl ?_
      refine w_iload dX23_measure_171 rfl ?_
      refine w_iload dX23_measure_173 rfl ?_
      obtain ⟨_, b4, hf⟩ := Option.bind_eq_some_iff.mp hf
      refine x_cnJ hf (e_stV (Yc := YX23_stretched) (ci := 22) (av := [.int l6, .int l4, .int l5]) (st := [.int x2, .ref l0]) dX23_measure_175 q3777 mX23_stretched rfl (k_ok_some b4).1 (k_ok_some b4).2) mX23_stretched.2.2.1 mX23_stretched.2.2.2.2.1 (Nat.le_of_ble_eq_true rfl) (Nat.le_of_ble_eq_true rfl) (fun q hq => pX23_stretched (by omega) hq) (fun q5 hf => ?_)
      refine w_lconst dX23_measure_178 (v := 0) (by decide) ?_
      refine w_lcmp dX23_measure_179 ?_
      refine w_if_le 187 dX23_measure_180 (by decide) (fun c6 => ?_) (fun c6 => ?_)
      · replace hf := (if_pos (show (lg_cmp q5.1 (0 : Int64)) ≤ 0 from c6)).symm.trans hf
        refine w_iconst dX23_measure_187 (v := 0) (by decide) ?_
        exact (pX23_measure_b188 hd ih hf).to ⟨rfl, rfl, rfl, rfl, trivial⟩
      · replace hf := (if_neg (show ¬ ((lg_cmp q5.1 (0 : Int64)) ≤ 0) from c6)).symm.trans hf
        refine w_iconst dX23_measure_183 (v := 1) (by decide) ?_
        refine w_goto 188 dX23_measure_184 (by decide) ?_
        exact (pX23_measure_b188 hd ih hf).to ⟨rfl, rfl, rfl, rfl, trivial⟩
def fX23_measure_b112 (N : Nat) (l0 : Nat) (l4 : Int32) (l5 : Int32) (h : eH) : Option (Unit × eH) :=
  (g_J 22 h l0 7).bind fun x1 =>
  (g_A 22 h l0 1).bind fun a3 =>
  (r_J h a3 l5).bind fun x5 =>
  (g_A 22 h l0 1).bind fun a7 =>
  (r_J h a7 l4).bind fun x9 =>
  (p_V 22 h l0 9 (.long ((x1 + x5) - x9))).bind fun h11 =>
  (k_ok 22 h11 l0).bind fun _ =>
  (fX23_stretched l0 (0 : Int32) l4 l5 h11).bind fun q14 =>
  (p_V 22 q14.2 l0 10 (.long q14.1)).bind fun h15 =>
  (p_Z 22 h15 l0 11 (0 : Int32)).bind fun h17 =>
  fX23_measure_b157 N N l0 l4 l5 (1 : Int32) h17
theorem pX23_measure_b112 {w : eW} {d : Nat} (hd : 1 ≤ d + 1) {N : Nat} {l0 : Nat} {l4 : Int32} {l5 : Int32} {h : eH} {q} (hf : fX23_measure_b112 N l0 l4 l5 h = some q) : wp w (d + 1) YX23_measure 112 [some (.ref l0), none, none, none, some (.int l4), some (.int l5), none] [] h (e_is (e_rn c_V q)) := by
  unfold fX23_measure_b112 at hf
  refine w_aload_n dX23_measure_112 rfl rfl ?_
  refine w_aload_n dX23_measure_113 rfl rfl ?_
  obtain ⟨x1, b2, hf⟩ := Option.bind_eq_some_iff.mp hf
  refine GX23_76 b2 dX23_measure_114 rfl ?_
  refine w_aload_n dX23_measure_117 rfl rfl ?_
  obtain ⟨a3, b4, hf⟩ := Option.bind_eq_some_iff.mp hf
  refine GX23_15 b4 dX23_measure_118 rfl ?_
  refine w_iload dX23_measure_121 rfl ?_
  obtain ⟨x5, b6, hf⟩ := Option.bind_eq_some_iff.mp hf
  refine x_rJ b6 dX23_measure_123 ?_
  refine w_ladd dX23_measure_124 ?_
  refine w_aload_n dX23_measure_125 rfl rfl ?_
  obtain ⟨a7, b8, hf⟩ := Option.bind_eq_some_iff.mp hf
  refine GX23_15 b8 dX23_measure_126 rfl ?_
  refine w_iload dX23_measure_129 rfl ?_
  obtain ⟨x9, b10, hf⟩ := Option.bind_eq_some_iff.mp hf
  refine x_rJ b10 dX23_measure_131 ?_
  refine w_lsub dX23_measure_132 ?_
  obtain ⟨h11, b12, hf⟩ := Option.bind_eq_some_iff.mp hf
  refine SX23_79 b12 dX23_measure_133 rfl ?_
  refine w_aload_n dX23_measure_136 rfl rfl ?_
  refine w_aload_n dX23_measure_137 rfl rfl ?_
  refine w_iconst dX23_measure_138 (v := 0) (by decide) ?_
  refine w_iload dX23_measure_139 rfl ?_
  refine w_iload dX23_measure_141 rfl ?_
  obtain ⟨_, b13, hf⟩ := Option.bind_eq_some_iff.mp hf
  refine x_cnJ hf (e_stV (Yc := YX23_stretched) (ci := 22) (av := [.int (0 : Int32), .int l4, .int l5]) (st := [.ref l0]) dX23_measure_143 q3777 mX23_stretched rfl (k_ok_some b13).1 (k_ok_some b13).2) mX23_stretched.2.2.1 mX23_stretched.2.2.2.2.1 (Nat.le_of_ble_eq_true rfl) (Nat.le_of_ble_eq_true rfl) (fun q hq => pX23_stretched (by omega) hq) (fun q14 hf => ?_)
  obtain ⟨h15, b16, hf⟩ := Option.bind_eq_some_iff.mp hf
  refine SX23_86 b16 dX23_measure_146 rfl ?_
  refine w_aload_n dX23_measure_149 rfl rfl ?_
  refine w_iconst dX23_measure_150 (v := 0) (by decide) ?_
  obtain ⟨h17, b18, hf⟩ := Option.bind_eq_some_iff.mp hf
  refine SX23_89 b18 dX23_measure_151 rfl ?_
  refine w_iconst dX23_measure_154 (v := 1) (by decide) ?_
  refine w_istore dX23_measure_155 (by decide) (ls' := [some (.ref l0), none, none, none, some (.int l4), some (.int l5), some (.int (1 : Int32))]) rfl ?_
  exact (pX23_measure_b157 hd N _ _ _ _ _ _ hf).to ⟨rfl, rfl, rfl, rfl, trivial⟩
def fX23_measure_b83 (N : Nat) (l0 : Nat) (l1 : Nat) (l3 : Int32) (l4 : Int32) (l5 : Int32) (h : eH) : Option (Unit × eH) :=
  (g_A 21 h l1 0).bind fun a1 =>
  (r_I 102 h a1 l3).bind fun x3 =>
  if ¬ x3 = (5 : Int32) then
    fX23_measure_b112 N l0 l4 l5 h
  else
    (g_J 22 h l0 8).bind fun x6 =>
    (g_A 21 h l1 1).bind fun a8 =>
    (r_I 100 h a8 l3).bind fun x10 =>
    (fX1_solid x10 h).bind fun q12 =>
    (p_V 22 q12.2 l0 8 (.long (x6 + (q12.1).toInt64))).bind fun h13 =>
    fX23_measure_b112 N l0 l4 l5 h13
theorem pX23_measure_b83 {w : eW} {d : Nat} (hd : 1 ≤ d + 1) {N : Nat} {l0 : Nat} {l1 : Nat} {l3 : Int32} {l4 : Int32} {l5 : Int32} {h : eH} {q} (hf : fX23_measure_b83 N l0 l1 l3 l4 l5 h = some q) : wp w (d + 1) YX23_measure 83 [some (.ref l0), some (.ref l1), none, some (.int l3), some (.int l4), some (.int l5), none] [] h (e_is (e_rn c_V q)) := by
  unfold fX23_measure_b83 at hf
  refine w_aload_n dX23_measure_83 rfl rfl ?_
  obtain ⟨a1, b2, hf⟩ := Option.bind_eq_some_iff.mp hf
  refine GX23_38 b2 dX23_measure_84 rfl ?_
  refine w_iload_n dX23_measure_87 rfl rfl ?_
  obtain ⟨x3, b4, hf⟩ := Option.bind_eq_some_iff.mp hf
  refine x_rB b4 dX23_measure_88 ?_
  refine w_iconst dX23_measure_89 (v := 5) (by decide) ?_
  refine w_icmp_ne 112 dX23_measure_90 (by decide) (fun c5 => ?_) (fun c5 => ?_)
  · replace hf := (if_pos (show ¬ x3 = (5 : Int32) from c5)).symm.trans hf
    exact (pX23_measure_b112 hd hf).to ⟨rfl, rfl, rfl, trivial⟩
  · replace hf := (if_neg (show ¬ (¬ x3 = (5 : Int32)) from (fun z => z c5))).symm.trans hf
    refine w_aload_n dX23_measure_93 rfl rfl ?_
    refine w_dup dX23_measure_94 rfl ?_
    obtain ⟨x6, b7, hf⟩ := Option.bind_eq_some_iff.mp hf
    refine GX23_69 b7 dX23_measure_95 rfl ?_
    refine w_aload_n dX23_measure_98 rfl rfl ?_
    obtain ⟨a8, b9, hf⟩ := Option.bind_eq_some_iff.mp hf
    refine GX23_42 b9 dX23_measure_99 rfl ?_
    refine w_iload_n dX23_measure_102 rfl rfl ?_
    obtain ⟨x10, b11, hf⟩ := Option.bind_eq_some_iff.mp hf
    refine x_rI b11 dX23_measure_103 ?_
    refine x_cnI hf (e_stSN (Yc := YX1_solid) (av := [.int x10]) (st := [.long x6, .ref l0]) dX23_measure_104 q3776 mX1_solid) mX1_solid.2.2.1 mX1_solid.2.2.2.2.1 (Nat.le_of_ble_eq_true rfl) (Nat.le_of_ble_eq_true rfl) (fun q hq => pX1_solid (by omega) hq) (fun q12 hf => ?_)
    refine w_i2l dX23_measure_107 ?_
    refine w_ladd dX23_measure_108 ?_
    obtain ⟨h13, b14, hf⟩ := Option.bind_eq_some_iff.mp hf
    refine SX23_69 b14 dX23_measure_109 rfl ?_
    exact (pX23_measure_b112 hd hf).to ⟨rfl, rfl, rfl, trivial⟩
def fX23_measure_b15 (N : Nat) (l0 : Nat) (l1 : Nat) (l2 : Int32) (l3 : Int32) (s0 : Int32) (h : eH) : Option (Unit × eH) :=
  (g_J 22 h l0 6).bind fun x1 =>
  (g_A 22 h l0 0).bind fun a3 =>
  (r_J h a3 (m_maxI s0 l3)).bind fun x5 =>
  (g_A 22 h l0 0).bind fun a7 =>
  (r_J h a7 s0).bind fun x9 =>
  (p_V 22 h l0 8 (.long ((x1 + x5) - x9))).bind fun h11 =>
  if l2 = (-1 : Int32) then
    fX23_measure_b83 N l0 l1 l3 s0 (m_maxI s0 l3) h11
  else
    (g_A 21 h11 l1 0).bind fun a14 =>
    (r_I 102 h11 a14 l2).bind fun x16 =>
    if ¬ x16 = (5 : Int32) then
      fX23_measure_b83 N l0 l1 l3 s0 (m_maxI s0 l3) h11
    else
      (g_J 22 h11 l0 8).bind fun x19 =>
      (g_A 21 h11 l1 2).bind fun a21 =>
      (r_I 100 h11 a21 l2).bind fun x23 =>
      (fX1_solid x23 h11).bind fun q25 =>
      (p_V 22 q25.2 l0 8 (.long (x19 + (q25.1).toInt64))).bind fun h26 =>
      fX23_measure_b83 N l0 l1 l3 s0 (m_maxI s0 l3) h26
theorem pX23_measure_b15 {w : eW} {d : Nat} (hd : 1 ≤ d + 1) {N : Nat} {l0 : Nat} {l1 : Nat} {l2 : Int32} {l3 : Int32} {s0 : Int32} {h : eH} {q} (hf : fX23_measure_b15 N l0 l1 l2 l3 s0 h = some q) : wp w (d + 1) YX23_measure 15 [some (.ref l0), some (.ref l1), some (.int l2), some (.int l3), none, none, none] [.int s0] h (e_is (e_rn c_V q)) := by
  unfold fX23_measure_b15 at hf
  refine w_istore dX23_measure_15 (by decide) (ls' := [some (.ref l0), some (.ref l1), some (.int l2), some (.int l3), some (.int s0), none, none]) rfl ?_
  refine w_iload dX23_measure_17 rfl ?_
  refine w_iload_n dX23_measure_19 rfl rfl ?_
  refine x_maxI dX23_measure_20 q3718 q2912 q478 q2913 (Nat.le_of_ble_eq_true rfl) ?_
  refine w_istore dX23_measure_23 (by decide) (ls' := [some (.ref l0), some (.ref l1), some (.int l2), some (.int l3), some (.int s0), some (.int (m_maxI s0 l3)), none]) rfl ?_
  refine w_aload_n dX23_measure_25 rfl rfl ?_
  refine w_aload_n dX23_measure_26 rfl rfl ?_
  obtain ⟨x1, b2, hf⟩ := Option.bind_eq_some_iff.mp hf
  refine GX23_65 b2 dX23_measure_27 rfl ?_
  refine w_aload_n dX23_measure_30 rfl rfl ?_
  obtain ⟨a3, b4, hf⟩ := Option.bind_eq_some_iff.mp hf
  refine GX23_9 b4 dX23_measure_31 rfl ?_
  refine w_iload dX23_measure_34 rfl ?_
  obtain ⟨x5, b6, hf⟩ := Option.bind_eq_some_iff.mp hf
  refine x_rJ b6 dX23_measure_36 ?_
  refine w_ladd dX23_measure_37 ?_
  refine w_aload_n dX23_measure_38 rfl rfl ?_
  obtain ⟨a7, b8, hf⟩ := Option.bind_eq_some_iff.mp hf
  refine GX23_9 b8 dX23_measure_39 rfl ?_
  refine w_iload dX23_measure_42 rfl ?_
  obtain ⟨x9, b10, hf⟩ := Option.bind_eq_some_iff.mp hf
  refine x_rJ b10 dX23_measure_44 ?_
  refine w_lsub dX23_measure_45 ?_
  obtain ⟨h11, b12, hf⟩ := Option.bind_eq_some_iff.mp hf
  refine SX23_69 b12 dX23_measure_46 rfl ?_
  refine w_iload_n dX23_measure_49 rfl rfl ?_
  refine w_iconst dX23_measure_50 (v := -1) (by decide) ?_
  refine w_icmp_eq 83 dX23_measure_51 (by decide) (fun c13 => ?_) (fun c13 => ?_)
  · replace hf := (if_pos (show l2 = (-1 : Int32) from c13)).symm.trans hf
    exact (pX23_measure_b83 hd hf).to ⟨rfl, rfl, rfl, rfl, rfl, trivial⟩
  · replace hf := (if_neg (show ¬ (l2 = (-1 : Int32)) from c13)).symm.trans hf
    refine w_aload_n dX23_measure_54 rfl rfl ?_
    obtain ⟨a14, b15, hf⟩ := Option.bind_eq_some_iff.mp hf
    refine GX23_38 b15 dX23_measure_55 rfl ?_
    refine w_iload_n dX23_measure_58 rfl rfl ?_
    obtain ⟨x16, b17, hf⟩ := Option.bind_eq_some_iff.mp hf
    refine x_rB b17 dX23_measure_59 ?_
    refine w_iconst dX23_measure_60 (v := 5) (by decide) ?_
    refine w_icmp_ne 83 dX23_measure_61 (by decide) (fun c18 => ?_) (fun c18 => ?_)
    · replace hf := (if_pos (show ¬ x16 = (5 : Int32) from c18)).symm.trans hf
      exact (pX23_measure_b83 hd hf).to ⟨rfl, rfl, rfl, rfl, rfl, trivial⟩
    · replace hf := (if_neg (show ¬ (¬ x16 = (5 : Int32)) from (fun z => z c18))).symm.trans hf
      refine w_aload_n dX23_measure_64 rfl rfl ?_
      refine w_dup dX23_measure_65 rfl ?_
      obtain ⟨x19, b20, hf⟩ := Option.bind_eq_some_iff.mp hf
      refine GX23_69 b20 dX23_measure_66 rfl ?_
      refine w_aload_n dX23_measure_69 rfl rfl ?_
      obtain ⟨a21, b22, hf⟩ := Option.bind_eq_some_iff.mp hf
      refine GX23_51 b22 dX23_measure_70 rfl ?_
      refine w_iload_n dX23_measure_73 rfl rfl ?_
      obtain ⟨x23, b24, hf⟩ := Option.bind_eq_some_iff.mp hf
      refine x_rI b24 dX23_measure_74 ?_
      refine x_cnI hf (e_stSN (Yc := YX1_solid) (av := [.int x23]) (st := [.long x19, .ref l0]) dX23_measure_75 q3776 mX1_solid) mX1_solid.2.2.1 mX1_solid.2.2.2.2.1 (Nat.le_of_ble_eq_true rfl) (Nat.le_of_ble_eq_true rfl) (fun q hq => pX1_solid (by omega) hq) (fun q25 hf => ?_)
      refine w_i2l dX23_measure_78 ?_
      refine w_ladd dX23_measure_79 ?_
      obtain ⟨h26, b27, hf⟩ := Option.bind_eq_some_iff.mp hf
      refine SX23_69 b27 dX23_measure_80 rfl ?_
      exact (pX23_measure_b83 hd hf).to ⟨rfl, rfl, rfl, rfl, rfl, trivial⟩
def fX23_measure (N : Nat) (this : Nat) (p0 : Nat) (p1 : Int32) (p2 : Int32) (h : eH) : Option (Unit × eH) :=
  if ¬ p1 = (-1 : Int32) then
    (g_A 22 h this 4).bind fun a2 =>
    (r_I 100 h a2 p1).bind fun x4 =>
    fX23_measure_b15 N this p0 p1 p2 x4 h
  else
    fX23_measure_b15 N this p0 p1 p2 (0 : Int32) h
theorem pX23_measure {w : eW} {d : Nat} (hd : 1 ≤ d) {N : Nat} {this : Nat} {p0 : Nat} {p1 : Int32} {p2 : Int32} {h : eH} {q} (hf : fX23_measure N this p0 p1 p2 h = some q) : wm w d YX23_measure [.ref this, .ref p0, .int p1, .int p2] h (e_is (e_rn c_V q)) := by
  obtain ⟨d, rfl⟩ : ∃ e, d = e + 1 := ⟨d - 1, by omega⟩
  show wp w (d + 1) YX23_measure 0 [some (.ref this), some (.ref p0), some (.int p1), some (.int p2), none, none, none] [] h _
  unfold fX23_measure at hf
  refine w_iload_n dX23_measure_0 rfl rfl ?_
  refine w_iconst dX23_measure_1 (v := -1) (by decide) ?_
  refine w_icmp_ne 9 dX23_measure_2 (by decide) (fun c1 => ?_) (fun c1 => ?_)
  · replace hf := (if_pos (show ¬ p1 = (-1 : Int32) from c1)).symm.trans hf
    refine w_aload_n dX23_measure_9 rfl rfl ?_
    obtain ⟨a2, b3, hf⟩ := Option.bind_eq_some_iff.mp hf
    refine GX23_25 b3 dX23_measure_10 rfl ?_
    refine w_iload_n dX23_measure_13 rfl rfl ?_
    obtain ⟨x4, b5, hf⟩ := Option.bind_eq_some_iff.mp hf
    refine x_rI b5 dX23_measure_14 ?_
    exact (pX23_measure_b15 hd hf).to ⟨rfl, rfl, rfl, rfl, trivial⟩
  · replace hf := (if_neg (show ¬ (¬ p1 = (-1 : Int32)) from (fun z => z c1))).symm.trans hf
    refine w_iconst dX23_measure_5 (v := 0) (by decide) ?_
    refine w_goto 15 dX23_measure_6 (by decide) ?_
    exact (pX23_measure_b15 hd hf).to ⟨rfl, rfl, rfl, rfl, trivial⟩
abbrev cX26_bad : ByteArray := prog_6_method_2_code
def yX26_bad : MethodName := ⟨RX26, "bad", "(JJ)I"⟩
def YX26_bad : eY := (yX26_bad, cX26_bad, 6, (Option.some FieldType.int), [])
theorem mX26_bad : e_ms YX26_bad 2 := ⟨q3787, q452, q3788, by decide, by decide +kernel, (e_sig (by decide +kernel))⟩
theorem dX26_bad_0 : decode cX26_bad 0 = .ok (.lload_n 0, 1) := dc_30 (by decide +kernel)
theorem dX26_bad_1 : decode cX26_bad 1 = .ok (.lconst 0, 1) := dc_9 (by decide +kernel)
theorem dX26_bad_2 : decode cX26_bad 2 = .ok (.lcmp, 1) := dc_148 (by decide +kernel)
theorem dX26_bad_3 : decode cX26_bad 3 = .ok (.ifCond .ne 5, 3) := dc_154 (a := 0) (b := 5) (v := 5) (by decide +kernel)
theorem dX26_bad_6 : decode cX26_bad 6 = .ok (.iconst 0, 1) := dc_3 (by decide +kernel)
theorem dX26_bad_7 : decode cX26_bad 7 = .ok (.ireturn, 1) := dc_172 (by decide +kernel)
theorem dX26_bad_8 : decode cX26_bad 8 = .ok (.lload_n 2, 1) := dc_32 (by decide +kernel)
theorem dX26_bad_9 : decode cX26_bad 9 = .ok (.lconst 0, 1) := dc_9 (by decide +kernel)
theorem dX26_bad_10 : decode cX26_bad 10 = .ok (.lcmp, 1) := dc_148 (by decide +kernel)
theorem dX26_bad_11 : decode cX26_bad 11 = .ok (.ifCond .ne 7, 3) := dc_154 (a := 0) (b := 7) (v := 7) (by decide +kernel)
theorem dX26_bad_14 : decode cX26_bad 14 = .ok (.sipush 10000, 3) := dc_17 (a := 39) (b := 16) (v := 10000) (by decide +kernel)
theorem dX26_bad_17 : decode cX26_bad 17 = .ok (.ireturn, 1) := dc_172 (by decide +kernel)
theorem dX26_bad_18 : decode cX26_bad 18 = .ok (.lload_n 0, 1) := dc_30 (by decide +kernel)
theorem dX26_bad_19 : decode cX26_bad 19 = .ok (.ldc2_w 9, 3) := dc_20 (a := 0) (b := 9) (n := 9) (by decide +kernel)
theorem dX26_bad_22 : decode cX26_bad 22 = .ok (.lcmp, 1) := dc_148 (by decide +kernel)
theorem dX26_bad_23 : decode cX26_bad 23 = .ok (.ifCond .gt 13, 3) := dc_157 (a := 0) (b := 13) (v := 13) (by decide +kernel)
theorem dX26_bad_26 : decode cX26_bad 26 = .ok (.ldc2_w 11, 3) := dc_20 (a := 0) (b := 11) (n := 11) (by decide +kernel)
theorem dX26_bad_29 : decode cX26_bad 29 = .ok (.lload_n 0, 1) := dc_30 (by decide +kernel)
theorem dX26_bad_30 : decode cX26_bad 30 = .ok (.lmul, 1) := dc_105 (by decide +kernel)
theorem dX26_bad_31 : decode cX26_bad 31 = .ok (.lload_n 2, 1) := dc_32 (by decide +kernel)
theorem dX26_bad_32 : decode cX26_bad 32 = .ok (.ldiv, 1) := dc_109 (by decide +kernel)
theorem dX26_bad_33 : decode cX26_bad 33 = .ok (.goto 22, 3) := dc_167 (a := 0) (b := 22) (v := 22) (by decide +kernel)
theorem dX26_bad_36 : decode cX26_bad 36 = .ok (.lload_n 2, 1) := dc_32 (by decide +kernel)
theorem dX26_bad_37 : decode cX26_bad 37 = .ok (.ldc2_w 13, 3) := dc_20 (a := 0) (b := 13) (n := 13) (by decide +kernel)
theorem dX26_bad_40 : decode cX26_bad 40 = .ok (.lcmp, 1) := dc_148 (by decide +kernel)
theorem dX26_bad_41 : decode cX26_bad 41 = .ok (.ifCond .lt 13, 3) := dc_155 (a := 0) (b := 13) (v := 13) (by decide +kernel)
theorem dX26_bad_44 : decode cX26_bad 44 = .ok (.lload_n 0, 1) := dc_30 (by decide +kernel)
theorem dX26_bad_45 : decode cX26_bad 45 = .ok (.lload_n 2, 1) := dc_32 (by decide +kernel)
theorem dX26_bad_46 : decode cX26_bad 46 = .ok (.ldc2_w 11, 3) := dc_20 (a := 0) (b := 11) (n := 11) (by decide +kernel)
theorem dX26_bad_49 : decode cX26_bad 49 = .ok (.ldiv, 1) := dc_109 (by decide +kernel)
theorem dX26_bad_50 : decode cX26_bad 50 = .ok (.ldiv, 1) := dc_109 (by decide +kernel)
theorem dX26_bad_51 : decode cX26_bad 51 = .ok (.goto 4, 3) := dc_167 (a := 0) (b := 4) (v := 4) (by decide +kernel)
theorem dX26_bad_54 : decode cX26_bad 54 = .ok (.lload_n 0, 1) := dc_30 (by decide +kernel)
theorem dX26_bad_55 : decode cX26_bad 55 = .ok (.lstore 4, 2) := dc_55 (a := 4) (by decide +kernel)
theorem dX26_bad_57 : decode cX26_bad 57 = .ok (.lload 4, 2) := dc_22 (a := 4) (by decide +kernel)
theorem dX26_bad_59 : decode cX26_bad 59 = .ok (.ldc2_w 15, 3) := dc_20 (a := 0) (b := 15) (n := 15) (by decide +kernel)
theorem dX26_bad_62 : decode cX26_bad 62 = .ok (.lcmp, 1) := dc_148 (by decide +kernel)
theorem dX26_bad_63 : decode cX26_bad 63 = .ok (.ifCond .le 9, 3) := dc_158 (a := 0) (b := 9) (v := 9) (by decide +kernel)
theorem dX26_bad_66 : decode cX26_bad 66 = .ok (.sipush 10000, 3) := dc_17 (a := 39) (b := 16) (v := 10000) (by decide +kernel)
theorem dX26_bad_69 : decode cX26_bad 69 = .ok (.goto 20, 3) := dc_167 (a := 0) (b := 20) (v := 20) (by decide +kernel)
theorem dX26_bad_72 : decode cX26_bad 72 = .ok (.lload 4, 2) := dc_22 (a := 4) (by decide +kernel)
theorem dX26_bad_74 : decode cX26_bad 74 = .ok (.lload 4, 2) := dc_22 (a := 4) (by decide +kernel)
theorem dX26_bad_76 : decode cX26_bad 76 = .ok (.lmul, 1) := dc_105 (by decide +kernel)
theorem dX26_bad_77 : decode cX26_bad 77 = .ok (.lload 4, 2) := dc_22 (a := 4) (by decide +kernel)
theorem dX26_bad_79 : decode cX26_bad 79 = .ok (.lmul, 1) := dc_105 (by decide +kernel)
theorem dX26_bad_80 : decode cX26_bad 80 = .ok (.ldc2_w 17, 3) := dc_20 (a := 0) (b := 17) (n := 17) (by decide +kernel)
theorem dX26_bad_83 : decode cX26_bad 83 = .ok (.ladd, 1) := dc_97 (by decide +kernel)
theorem dX26_bad_84 : decode cX26_bad 84 = .ok (.ldc2_w 19, 3) := dc_20 (a := 0) (b := 19) (n := 19) (by decide +kernel)
theorem dX26_bad_87 : decode cX26_bad 87 = .ok (.ldiv, 1) := dc_109 (by decide +kernel)
theorem dX26_bad_88 : decode cX26_bad 88 = .ok (.l2i, 1) := dc_136 (by decide +kernel)
theorem dX26_bad_89 : decode cX26_bad 89 = .ok (.ireturn, 1) := dc_172 (by decide +kernel)
def fX26_bad_b89 (s0 : Int32) (h : eH) : Option (Int32 × eH) :=
  some (s0, h)
theorem pX26_bad_b89 {w : eW} {d : Nat} (hd : 0 ≤ d) {s0 : Int32} {h : eH} {q} (hf : fX26_bad_b89 s0 h = some q) : wp w d YX26_bad 89 [none, none, none, none, none, none] [.int s0] h (e_is (e_rn c_I q)) := by
  unfold fX26_bad_b89 at hf
  cases hf
  exact w_iret dX26_bad_89 rfl rfl rfl
def fX26_bad_b55 (s0 : Int64) (h : eH) : Option (Int32 × eH) :=
  if (lg_cmp s0 (1290 : Int64)) ≤ 0 then
    fX26_bad_b89 (((((s0 * s0) * s0) + (131072 : Int64)) / (262144 : Int64))).toInt32 h
  else
    fX26_bad_b89 (10000 : Int32) h
theorem pX26_bad_b55 {w : eW} {d : Nat} (hd : 0 ≤ d) {s0 : Int64} {h : eH} {q} (hf : fX26_bad_b55 s0 h = some q) : wp w d YX26_bad 55 [none, none, none, none, none, none] [.long s0] h (e_is (e_rn c_I q)) := by
  unfold fX26_bad_b55 at hf
  refine w_lstore dX26_bad_55 (by decide) (ls' := [none, none, none, none, some (.long s0), none]) rfl ?_
  refine w_lload dX26_bad_57 rfl ?_
  refine w_ldc2 dX26_bad_59 q3792 ?_
  refine w_lcmp dX26_bad_62 ?_
  refine w_if_le 72 dX26_bad_63 (by decide) (fun c1 => ?_) (fun c1 => ?_)
  · replace hf := (if_pos (show (lg_cmp s0 (1290 : Int64)) ≤ 0 from c1)).symm.trans hf
    refine w_lload dX26_bad_72 rfl ?_
    refine w_lload dX26_bad_74 rfl ?_
    refine w_lmul dX26_bad_76 ?_
    refine w_lload dX26_bad_77 rfl ?_
    refine w_lmul dX26_bad_79 ?_
    refine w_ldc2 dX26_bad_80 q3793 ?_
    refine w_ladd dX26_bad_83 ?_
    refine w_ldc2 dX26_bad_84 q3794 ?_
    refine w_ldiv dX26_bad_87 (by decide) ?_
    refine w_l2i dX26_bad_88 ?_
    exact (pX26_bad_b89 hd hf).to trivial
  · replace hf := (if_neg (show ¬ ((lg_cmp s0 (1290 : Int64)) ≤ 0) from c1)).symm.trans hf
    refine w_sipush dX26_bad_66 (v := 10000) (by decide) ?_
    refine w_goto 89 dX26_bad_69 (by decide) ?_
    exact (pX26_bad_b89 hd hf).to trivial
def fX26_bad (p0 : Int64) (p1 : Int64) (h : eH) : Option (Int32 × eH) :=
  if ¬ (lg_cmp p0 (0 : Int64)) = 0 then
    if ¬ (lg_cmp p1 (0 : Int64)) = 0 then
      if 0 < (lg_cmp p0 (7230584 : Int64)) then
        if (lg_cmp p1 (1663497 : Int64)) < 0 then
          fX26_bad_b55 p0 h
        else
          if (p1 / (297 : Int64)) = 0 then none else
          fX26_bad_b55 (p0 / (p1 / (297 : Int64))) h
      else
        if p1 = 0 then none else
        fX26_bad_b55 (((297 : Int64) * p0) / p1) h
    else
      some ((10000 : Int32), h)
  else
    some ((0 : Int32), h)
theorem pX26_bad {w : eW} {d : Nat} (hd : 0 ≤ d) {p0 : Int64} {p1 : Int64} {h : eH} {q} (hf : fX26_bad p0 p1 h = some q) : wm w d YX26_bad [.long p0, .long p1] h (e_is (e_rn c_I q)) := by
  show wp w d YX26_bad 0 [some (.long p0), none, some (.long p1), none, none, none] [] h _
  unfold fX26_bad at hf
  refine w_lload_n dX26_bad_0 rfl rfl ?_
  refine w_lconst dX26_bad_1 (v := 0) (by decide) ?_
  refine w_lcmp dX26_bad_2 ?_
  refine w_if_ne 8 dX26_bad_3 (by decide) (fun c1 => ?_) (fun c1 => ?_)
  · replace hf := (if_pos (show ¬ (lg_cmp p0 (0 : Int64)) = 0 from c1)).symm.trans hf
    refine w_lload_n dX26_bad_8 rfl rfl ?_
    refine w_lconst dX26_bad_9 (v := 0) (by decide) ?_
    refine w_lcmp dX26_bad_10 ?_
    refine w_if_ne 18 dX26_bad_11 (by decide) (fun c2 => ?_) (fun c2 => ?_)
    · replace hf := (if_pos (show ¬ (lg_cmp p1 (0 : Int64)) = 0 from c2)).symm.trans hf
      refine w_lload_n dX26_bad_18 rfl rfl ?_
      refine w_ldc2 dX26_bad_19 q3789 ?_
      refine w_lcmp dX26_bad_22 ?_
      refine w_if_gt 36 dX26_bad_23 (by decide) (fun c3 => ?_) (fun c3 => ?_)
      · replace hf := (if_pos (show 0 < (lg_cmp p0 (7230584 : Int64)) from c3)).symm.trans hf
        refine w_lload_n dX26_bad_36 rfl rfl ?_
        refine w_ldc2 dX26_bad_37 q3791 ?_
        refine w_lcmp dX26_bad_40 ?_
        refine w_if_lt 54 dX26_bad_41 (by decide) (fun c4 => ?_) (fun c4 => ?_)
        · replace hf := (if_pos (show (lg_cmp p1 (1663497 : Int64)) < 0 from c4)).symm.trans hf
          refine w_lload_n dX26_bad_54 rfl rfl ?_
          exact (pX26_bad_b55 hd hf).to trivial
        · replace hf := (if_neg (show ¬ ((lg_cmp p1 (1663497 : Int64)) < 0) from c4)).symm.trans hf
          refine w_lload_n dX26_bad_44 rfl rfl ?_
          refine w_lload_n dX26_bad_45 rfl rfl ?_
          refine w_ldc2 dX26_bad_46 q3790 ?_
          refine w_ldiv dX26_bad_49 (by decide) ?_
          by_cases c5 : (p1 / (297 : Int64)) = 0
          · exact absurd ((if_pos c5).symm.trans hf) (by simp)
          replace hf := (if_neg c5).symm.trans hf
          refine w_ldiv dX26_bad_50 c5 ?_
          refine w_goto 55 dX26_bad_51 (by decide) ?_
          exact (pX26_bad_b55 hd hf).to trivial
      · replace hf := (if_neg (show ¬ (0 < (lg_cmp p0 (7230584 : Int64))) from c3)).symm.trans hf
        refine w_ldc2 dX26_bad_26 q3790 ?_
        refine w_lload_n dX26_bad_29 rfl rfl ?_
        refine w_lmul dX26_bad_30 ?_
        refine w_lload_n dX26_bad_31 rfl rfl ?_
        by_cases c6 : p1 = 0
        · exact absurd ((if_pos c6).symm.trans hf) (by simp)
        replace hf := (if_neg c6).symm.trans hf
        refine w_ldiv dX26_bad_32 c6 ?_
        refine w_goto 55 dX26_bad_33 (by decide) ?_
        exact (pX26_bad_b55 hd hf).to trivial
    · replace hf := (if_neg (show ¬ (¬ (lg_cmp p1 (0 : Int64)) = 0) from (fun z => z c2))).symm.trans hf
      refine w_sipush dX26_bad_14 (v := 10000) (by decide) ?_
      cases hf
      exact w_iret dX26_bad_17 rfl rfl rfl
  · replace hf := (if_neg (show ¬ (¬ (lg_cmp p0 (0 : Int64)) = 0) from (fun z => z c1))).symm.trans hf
    refine w_iconst dX26_bad_6 (v := 0) (by decide) ?_
    cases hf
    exact w_iret dX26_bad_7 rfl rfl rfl
abbrev cX26_weigh : ByteArray := prog_6_method_3_code
def yX26_weigh : MethodName := ⟨RX26, "weigh", "(JLTypeHouse$Measure;)V"⟩
def YX26_weigh : eY := (yX26_weigh, cX26_weigh, 5, none, [])
theorem mX26_weigh : e_mv YX26_weigh RX26 2 := ⟨q3783, q3784, q3785, by decide, by decide +kernel, (e_sig (by decide +kernel))⟩
theorem dX26_weigh_0 : decode cX26_weigh 0 = .ok (.lload_n 1, 1) := dc_31 (by decide +kernel)
theorem dX26_weigh_1 : decode cX26_weigh 1 = .ok (.lconst 0, 1) := dc_9 (by decide +kernel)
theorem dX26_weigh_2 : decode cX26_weigh 2 = .ok (.lcmp, 1) := dc_148 (by decide +kernel)
theorem dX26_weigh_3 : decode cX26_weigh 3 = .ok (.ifCond .le 60, 3) := dc_158 (a := 0) (b := 60) (v := 60) (by decide +kernel)
theorem dX26_weigh_6 : decode cX26_weigh 6 = .ok (.aload_n 0, 1) := dc_42 (by decide +kernel)
theorem dX26_weigh_7 : decode cX26_weigh 7 = .ok (.aload_n 3, 1) := dc_45 (by decide +kernel)
theorem dX26_weigh_8 : decode cX26_weigh 8 = .ok (.getfield 21, 3) := dc_180 (a := 0) (b := 21) (n := 21) (by decide +kernel)
theorem dX26_weigh_11 : decode cX26_weigh 11 = .ok (.ifCond .eq 7, 3) := dc_153 (a := 0) (b := 7) (v := 7) (by decide +kernel)
theorem dX26_weigh_14 : decode cX26_weigh 14 = .ok (.iconst 0, 1) := dc_3 (by decide +kernel)
theorem dX26_weigh_15 : decode cX26_weigh 15 = .ok (.goto 11, 3) := dc_167 (a := 0) (b := 11) (v := 11) (by decide +kernel)
theorem dX26_weigh_18 : decode cX26_weigh 18 = .ok (.lload_n 1, 1) := dc_31 (by decide +kernel)
theorem dX26_weigh_19 : decode cX26_weigh 19 = .ok (.aload_n 3, 1) := dc_45 (by decide +kernel)
theorem dX26_weigh_20 : decode cX26_weigh 20 = .ok (.getfield 27, 3) := dc_180 (a := 0) (b := 27) (n := 27) (by decide +kernel)
theorem dX26_weigh_23 : decode cX26_weigh 23 = .ok (.invokestatic 31, 3) := dc_184 (a := 0) (b := 31) (n := 31) (by decide +kernel)
theorem dX26_weigh_26 : decode cX26_weigh 26 = .ok (.putfield 37, 3) := dc_181 (a := 0) (b := 37) (n := 37) (by decide +kernel)
theorem dX26_weigh_29 : decode cX26_weigh 29 = .ok (.aload_n 0, 1) := dc_42 (by decide +kernel)
theorem dX26_weigh_30 : decode cX26_weigh 30 = .ok (.aload_n 0, 1) := dc_42 (by decide +kernel)
theorem dX26_weigh_31 : decode cX26_weigh 31 = .ok (.getfield 37, 3) := dc_180 (a := 0) (b := 37) (n := 37) (by decide +kernel)
theorem dX26_weigh_34 : decode cX26_weigh 34 = .ok (.bipush 99, 2) := dc_16 (a := 99) (v := 99) (by decide +kernel)
theorem dX26_weigh_36 : decode cX26_weigh 36 = .ok (.if_icmp .le 7, 3) := dc_164 (a := 0) (b := 7) (v := 7) (by decide +kernel)
theorem dX26_weigh_39 : decode cX26_weigh 39 = .ok (.iconst 0, 1) := dc_3 (by decide +kernel)
theorem dX26_weigh_40 : decode cX26_weigh 40 = .ok (.goto 17, 3) := dc_167 (a := 0) (b := 17) (v := 17) (by decide +kernel)
theorem dX26_weigh_43 : decode cX26_weigh 43 = .ok (.aload_n 0, 1) := dc_42 (by decide +kernel)
theorem dX26_weigh_44 : decode cX26_weigh 44 = .ok (.getfield 37, 3) := dc_180 (a := 0) (b := 37) (n := 37) (by decide +kernel)
theorem dX26_weigh_47 : decode cX26_weigh 47 = .ok (.bipush 12, 2) := dc_16 (a := 12) (v := 12) (by decide +kernel)
theorem dX26_weigh_49 : decode cX26_weigh 49 = .ok (.if_icmp .le 7, 3) := dc_164 (a := 0) (b := 7) (v := 7) (by decide +kernel)
theorem dX26_weigh_52 : decode cX26_weigh 52 = .ok (.iconst 1, 1) := dc_4 (by decide +kernel)
theorem dX26_weigh_53 : decode cX26_weigh 53 = .ok (.goto 4, 3) := dc_167 (a := 0) (b := 4) (v := 4) (by decide +kernel)
theorem dX26_weigh_56 : decode cX26_weigh 56 = .ok (.iconst 2, 1) := dc_5 (by decide +kernel)
theorem dX26_weigh_57 : decode cX26_weigh 57 = .ok (.putfield 41, 3) := dc_181 (a := 0) (b := 41) (n := 41) (by decide +kernel)
theorem dX26_weigh_60 : decode cX26_weigh 60 = .ok (.goto 62, 3) := dc_167 (a := 0) (b := 62) (v := 62) (by decide +kernel)
theorem dX26_weigh_63 : decode cX26_weigh 63 = .ok (.lload_n 1, 1) := dc_31 (by decide +kernel)
theorem dX26_weigh_64 : decode cX26_weigh 64 = .ok (.lneg, 1) := dc_117 (by decide +kernel)
theorem dX26_weigh_65 : decode cX26_weigh 65 = .ok (.aload_n 3, 1) := dc_45 (by decide +kernel)
theorem dX26_weigh_66 : decode cX26_weigh 66 = .ok (.getfield 44, 3) := dc_180 (a := 0) (b := 44) (n := 44) (by decide +kernel)
theorem dX26_weigh_69 : decode cX26_weigh 69 = .ok (.lcmp, 1) := dc_148 (by decide +kernel)
theorem dX26_weigh_70 : decode cX26_weigh 70 = .ok (.ifCond .le 7, 3) := dc_158 (a := 0) (b := 7) (v := 7) (by decide +kernel)
theorem dX26_weigh_73 : decode cX26_weigh 73 = .ok (.iconst 1, 1) := dc_4 (by decide +kernel)
theorem dX26_weigh_74 : decode cX26_weigh 74 = .ok (.goto 4, 3) := dc_167 (a := 0) (b := 4) (v := 4) (by decide +kernel)
theorem dX26_weigh_77 : decode cX26_weigh 77 = .ok (.iconst 0, 1) := dc_3 (by decide +kernel)
theorem dX26_weigh_78 : decode cX26_weigh 78 = .ok (.istore 4, 2) := dc_54 (a := 4) (by decide +kernel)
theorem dX26_weigh_80 : decode cX26_weigh 80 = .ok (.aload_n 0, 1) := dc_42 (by decide +kernel)
theorem dX26_weigh_81 : decode cX26_weigh 81 = .ok (.iload 4, 2) := dc_21 (a := 4) (by decide +kernel)
theorem dX26_weigh_83 : decode cX26_weigh 83 = .ok (.ifCond .eq 9, 3) := dc_153 (a := 0) (b := 9) (v := 9) (by decide +kernel)
theorem dX26_weigh_86 : decode cX26_weigh 86 = .ok (.sipush 10001, 3) := dc_17 (a := 39) (b := 17) (v := 10001) (by decide +kernel)
theorem dX26_weigh_89 : decode cX26_weigh 89 = .ok (.goto 12, 3) := dc_167 (a := 0) (b := 12) (v := 12) (by decide +kernel)
theorem dX26_weigh_92 : decode cX26_weigh 92 = .ok (.lload_n 1, 1) := dc_31 (by decide +kernel)
theorem dX26_weigh_93 : decode cX26_weigh 93 = .ok (.lneg, 1) := dc_117 (by decide +kernel)
theorem dX26_weigh_94 : decode cX26_weigh 94 = .ok (.aload_n 3, 1) := dc_45 (by decide +kernel)
theorem dX26_weigh_95 : decode cX26_weigh 95 = .ok (.getfield 44, 3) := dc_180 (a := 0) (b := 44) (n := 44) (by decide +kernel)
theorem dX26_weigh_98 : decode cX26_weigh 98 = .ok (.invokestatic 31, 3) := dc_184 (a := 0) (b := 31) (n := 31) (by decide +kernel)
theorem dX26_weigh_101 : decode cX26_weigh 101 = .ok (.putfield 37, 3) := dc_181 (a := 0) (b := 37) (n := 37) (by decide +kernel)
theorem dX26_weigh_104 : decode cX26_weigh 104 = .ok (.aload_n 0, 1) := dc_42 (by decide +kernel)
theorem dX26_weigh_105 : decode cX26_weigh 105 = .ok (.aload_n 0, 1) := dc_42 (by decide +kernel)
theorem dX26_weigh_106 : decode cX26_weigh 106 = .ok (.getfield 37, 3) := dc_180 (a := 0) (b := 37) (n := 37) (by decide +kernel)
theorem dX26_weigh_109 : decode cX26_weigh 109 = .ok (.bipush 12, 2) := dc_16 (a := 12) (v := 12) (by decide +kernel)
theorem dX26_weigh_111 : decode cX26_weigh 111 = .ok (.if_icmp .le 7, 3) := dc_164 (a := 0) (b := 7) (v := 7) (by decide +kernel)
theorem dX26_weigh_114 : decode cX26_weigh 114 = .ok (.iconst 3, 1) := dc_6 (by decide +kernel)
theorem dX26_weigh_115 : decode cX26_weigh 115 = .ok (.goto 4, 3) := dc_167 (a := 0) (b := 4) (v := 4) (by decide +kernel)
theorem dX26_weigh_118 : decode cX26_weigh 118 = .ok (.iconst 2, 1) := dc_5 (by decide +kernel)
theorem dX26_weigh_119 : decode cX26_weigh 119 = .ok (.putfield 41, 3) := dc_181 (a := 0) (b := 41) (n := 41) (by decide +kernel)
theorem dX26_weigh_122 : decode cX26_weigh 122 = .ok (.return_, 1) := dc_177 (by decide +kernel)
theorem GX26_21 {w : eW} {d : Nat} {Y : eY} {pc : Nat} {ls : eL} {st : List Value} {h : eH} {Q : eO → eH → Prop} {a : Nat} {x : Int32} (hf : g_I 22 h a 11 = some x) (hd : decode Y.2.1 pc = .ok (.getfield 21, 3)) (hY : Y.1.cls = RX26) (kk : wp w d Y (pc + 3) ls (.int x :: st) h Q) : wp w d Y pc ls (.ref a :: st) h Q := x_gIN (ci := 22) (k := 11) hf hd rfl (by decide) (by rw [hY]; exact q1302) kk
theorem GX26_27 {w : eW} {d : Nat} {Y : eY} {pc : Nat} {ls : eL} {st : List Value} {h : eH} {Q : eO → eH → Prop} {a : Nat} {x : Int64} (hf : g_J 22 h a 10 = some x) (hd : decode Y.2.1 pc = .ok (.getfield 27, 3)) (hY : Y.1.cls = RX26) (kk : wp w d Y (pc + 3) ls (.long x :: st) h Q) : wp w d Y pc ls (.ref a :: st) h Q := x_gJN (ci := 22) (k := 10) hf hd rfl (by decide) (by rw [hY]; exact q1300) kk
theorem GX26_37 {w : eW} {d : Nat} {Y : eY} {pc : Nat} {ls : eL} {st : List Value} {h : eH} {Q : eO → eH → Prop} {a : Nat} {x : Int32} (hf : g_I 25 h a 0 = some x) (hd : decode Y.2.1 pc = .ok (.getfield 37, 3)) (hY : Y.1.cls = RX26) (kk : wp w d Y (pc + 3) ls (.int x :: st) h Q) : wp w d Y pc ls (.ref a :: st) h Q := x_gI (ci := 25) (k := 0) hf hd rfl (by decide) (by rw [hY]; exact q1383) kk
theorem GX26_44 {w : eW} {d : Nat} {Y : eY} {pc : Nat} {ls : eL} {st : List Value} {h : eH} {Q : eO → eH → Prop} {a : Nat} {x : Int64} (hf : g_J 22 h a 9 = some x) (hd : decode Y.2.1 pc = .ok (.getfield 44, 3)) (hY : Y.1.cls = RX26) (kk : wp w d Y (pc + 3) ls (.long x :: st) h Q) : wp w d Y pc ls (.ref a :: st) h Q := x_gJN (ci := 22) (k := 9) hf hd rfl (by decide) (by rw [hY]; exact q1298) kk
theorem SX26_37 {w : eW} {d : Nat} {Y : eY} {pc : Nat} {ls : eL} {st : List Value} {h : eH} {Q : eO → eH → Prop} {a : Nat} {h' : eH} {x : Int32} (hf : p_V 25 h a 0 (.int x) = some h') (hd : decode Y.2.1 pc = .ok (.putfield 37, 3)) (hY : Y.1.cls = RX26) (kk : wp w d Y (pc + 3) ls st h' Q) : wp w d Y pc ls (.int x :: .ref a :: st) h Q := x_pI (ci := 25) (k := 0) hf hd rfl (by decide) (by rw [hY]; exact q1383) rfl rfl kk
theorem SX26_41 {w : eW} {d : Nat} {Y : eY} {pc : Nat} {ls : eL} {st : List Value} {h : eH} {Q : eO → eH → Prop} {a : Nat} {h' : eH} {x : Int32} (hf : p_V 25 h a 1 (.int x) = some h') (hd : decode Y.2.1 pc = .ok (.putfield 41, 3)) (hY : Y.1.cls = RX26) (kk : wp w d Y (pc + 3) ls st h' Q) : wp w d Y pc ls (.int x :: .ref a :: st) h Q := x_pI (ci := 25) (k := 1) hf hd rfl (by decide) (by rw [hY]; exact q1385) rfl rfl kk
def fX26_weigh_b122  (h : eH) : Option (Unit × eH) :=
  some ((), h)
theorem pX26_weigh_b122 {w : eW} {d : Nat} (hd : 1 ≤ d + 1)  {h : eH} {q} (hf : fX26_weigh_b122  h = some q) : wp w (d + 1) YX26_weigh 122 [none, none, none, none, none] [] h (e_is (e_rn c_V q)) := by
  unfold fX26_weigh_b122 at hf
  cases hf
  exact w_vret dX26_weigh_122 rfl rfl
def fX26_weigh_b57 (s0 : Nat) (s1 : Int32) (h : eH) : Option (Unit × eH) :=
  (p_V 25 h s0 1 (.int s1)).bind fun h1 =>
  fX26_weigh_b122 h1
theorem pX26_weigh_b57 {w : eW} {d : Nat} (hd : 1 ≤ d + 1) {s0 : Nat} {s1 : Int32} {h : eH} {q} (hf : fX26_weigh_b57 s0 s1 h = some q) : wp w (d + 1) YX26_weigh 57 [none, none, none, none, none] [.int s1, .ref s0] h (e_is (e_rn c_V q)) := by
  unfold fX26_weigh_b57 at hf
  obtain ⟨h1, b2, hf⟩ := Option.bind_eq_some_iff.mp hf
  refine SX26_41 b2 dX26_weigh_57 rfl ?_
  refine w_goto 122 dX26_weigh_60 (by decide) ?_
  exact (pX26_weigh_b122 hd hf).to trivial
def fX26_weigh_b26 (l0 : Nat) (s0 : Nat) (s1 : Int32) (h : eH) : Option (Unit × eH) :=
  (p_V 25 h s0 0 (.int s1)).bind fun h1 =>
  (g_I 25 h1 l0 0).bind fun x3 =>
  if x3 ≤ (99 : Int32) then
    (g_I 25 h1 l0 0).bind fun x6 =>
    if x6 ≤ (12 : Int32) then
      fX26_weigh_b57 l0 (2 : Int32) h1
    else
      fX26_weigh_b57 l0 (1 : Int32) h1
  else
    fX26_weigh_b57 l0 (0 : Int32) h1
theorem pX26_weigh_b26 {w : eW} {d : Nat} (hd : 1 ≤ d + 1) {l0 : Nat} {s0 : Nat} {s1 : Int32} {h : eH} {q} (hf : fX26_weigh_b26 l0 s0 s1 h = some q) : wp w (d + 1) YX26_weigh 26 [some (.ref l0), none, none, none, none] [.int s1, .ref s0] h (e_is (e_rn c_V q)) := by
  unfold fX26_weigh_b26 at hf
  obtain ⟨h1, b2, hf⟩ := Option.bind_eq_some_iff.mp hf
  refine SX26_37 b2 dX26_weigh_26 rfl ?_
  refine w_aload_n dX26_weigh_29 rfl rfl ?_
  refine w_aload_n dX26_weigh_30 rfl rfl ?_
  obtain ⟨x3, b4, hf⟩ := Option.bind_eq_some_iff.mp hf
  refine GX26_37 b4 dX26_weigh_31 rfl ?_
  refine w_bipush dX26_weigh_34 (v := 99) (by decide) ?_
  refine w_icmp_le 43 dX26_weigh_36 (by decide) (fun c5 => ?_) (fun c5 => ?_)
  · replace hf := (if_pos (show x3 ≤ (99 : Int32) from c5)).symm.trans hf
    refine w_aload_n dX26_weigh_43 rfl rfl ?_
    obtain ⟨x6, b7, hf⟩ := Option.bind_eq_some_iff.mp hf
    refine GX26_37 b7 dX26_weigh_44 rfl ?_
    refine w_bipush dX26_weigh_47 (v := 12) (by decide) ?_
    refine w_icmp_le 56 dX26_weigh_49 (by decide) (fun c8 => ?_) (fun c8 => ?_)
    · replace hf := (if_pos (show x6 ≤ (12 : Int32) from c8)).symm.trans hf
      refine w_iconst dX26_weigh_56 (v := 2) (by decide) ?_
      exact (pX26_weigh_b57 hd hf).to trivial
    · replace hf := (if_neg (show ¬ (x6 ≤ (12 : Int32)) from c8)).symm.trans hf
      refine w_iconst dX26_weigh_52 (v := 1) (by decide) ?_
      refine w_goto 57 dX26_weigh_53 (by decide) ?_
      exact (pX26_weigh_b57 hd hf).to trivial
  · replace hf := (if_neg (show ¬ (x3 ≤ (99 : Int32)) from c5)).symm.trans hf
    refine w_iconst dX26_weigh_39 (v := 0) (by decide) ?_
    refine w_goto 57 dX26_weigh_40 (by decide) ?_
    exact (pX26_weigh_b57 hd hf).to trivial
def fX26_weigh_b119 (s0 : Nat) (s1 : Int32) (h : eH) : Option (Unit × eH) :=
  (p_V 25 h s0 1 (.int s1)).bind fun h1 =>
  fX26_weigh_b122 h1
theorem pX26_weigh_b119 {w : eW} {d : Nat} (hd : 1 ≤ d + 1) {s0 : Nat} {s1 : Int32} {h : eH} {q} (hf : fX26_weigh_b119 s0 s1 h = some q) : wp w (d + 1) YX26_weigh 119 [none, none, none, none, none] [.int s1, .ref s0] h (e_is (e_rn c_V q)) := by
  unfold fX26_weigh_b119 at hf
  obtain ⟨h1, b2, hf⟩ := Option.bind_eq_some_iff.mp hf
  refine SX26_41 b2 dX26_weigh_119 rfl ?_
  exact (pX26_weigh_b122 hd hf).to trivial
def fX26_weigh_b101 (l0 : Nat) (s0 : Nat) (s1 : Int32) (h : eH) : Option (Unit × eH) :=
  (p_V 25 h s0 0 (.int s1)).bind fun h1 =>
  (g_I 25 h1 l0 0).bind fun x3 =>
  if x3 ≤ (12 : Int32) then
    fX26_weigh_b119 l0 (2 : Int32) h1
  else
    fX26_weigh_b119 l0 (3 : Int32) h1
theorem pX26_weigh_b101 {w : eW} {d : Nat} (hd : 1 ≤ d + 1) {l0 : Nat} {s0 : Nat} {s1 : Int32} {h : eH} {q} (hf : fX26_weigh_b101 l0 s0 s1 h = some q) : wp w (d + 1) YX26_weigh 101 [some (.ref l0), none, none, none, none] [.int s1, .ref s0] h (e_is (e_rn c_V q)) := by
  unfold fX26_weigh_b101 at hf
  obtain ⟨h1, b2, hf⟩ := Option.bind_eq_some_iff.mp hf
  refine SX26_37 b2 dX26_weigh_101 rfl ?_
  refine w_aload_n dX26_weigh_104 rfl rfl ?_
  refine w_aload_n dX26_weigh_105 rfl rfl ?_
  obtain ⟨x3, b4, hf⟩ := Option.bind_eq_some_iff.mp hf
  refine GX26_37 b4 dX26_weigh_106 rfl ?_
  refine w_bipush dX26_weigh_109 (v := 12) (by decide) ?_
  refine w_icmp_le 118 dX26_weigh_111 (by decide) (fun c5 => ?_) (fun c5 => ?_)
  · replace hf := (if_pos (show x3 ≤ (12 : Int32) from c5)).symm.trans hf
    refine w_iconst dX26_weigh_118 (v := 2) (by decide) ?_
    exact (pX26_weigh_b119 hd hf).to trivial
  · replace hf := (if_neg (show ¬ (x3 ≤ (12 : Int32)) from c5)).symm.trans hf
    refine w_iconst dX26_weigh_114 (v := 3) (by decide) ?_
    refine w_goto 119 dX26_weigh_115 (by decide) ?_
    exact (pX26_weigh_b119 hd hf).to trivial
def fX26_weigh_b78 (l0 : Nat) (l1 : Int64) (l3 : Nat) (s0 : Int32) (h : eH) : Option (Unit × eH) :=
  if s0 = 0 then
    (g_J 22 h l3 9).bind fun x2 =>
    (fX26_bad (-l1) x2 h).bind fun q4 =>
    fX26_weigh_b101 l0 l0 q4.1 q4.2
  else
    fX26_weigh_b101 l0 l0 (10001 : Int32) h
theorem pX26_weigh_b78 {w : eW} {d : Nat} (hd : 1 ≤ d + 1) {l0 : Nat} {l1 : Int64} {l3 : Nat} {s0 : Int32} {h : eH} {q} (hf : fX26_weigh_b78 l0 l1 l3 s0 h = some q) : wp w (d + 1) YX26_weigh 78 [some (.ref l0), some (.long l1), none, some (.ref l3), none] [.int s0] h (e_is (e_rn c_V q)) := by
  unfold fX26_weigh_b78 at hf
  refine w_istore dX26_weigh_78 (by decide) (ls' := [some (.ref l0), some (.long l1), none, some (.ref l3), some (.int s0)]) rfl ?_
  refine w_aload_n dX26_weigh_80 rfl rfl ?_
  refine w_iload dX26_weigh_81 rfl ?_
  refine w_if_eq 92 dX26_weigh_83 (by decide) (fun c1 => ?_) (fun c1 => ?_)
  · replace hf := (if_pos (show s0 = 0 from c1)).symm.trans hf
    refine w_lload_n dX26_weigh_92 rfl rfl ?_
    refine w_lneg dX26_weigh_93 ?_
    refine w_aload_n dX26_weigh_94 rfl rfl ?_
    obtain ⟨x2, b3, hf⟩ := Option.bind_eq_some_iff.mp hf
    refine GX26_44 b3 dX26_weigh_95 rfl ?_
    refine x_cnI hf (e_stS (Yc := YX26_bad) (av := [.long (-l1), .long x2]) (st := [.ref l0]) dX26_weigh_98 q3786 mX26_bad) mX26_bad.2.2.1 mX26_bad.2.2.2.2.1 (Nat.le_of_ble_eq_true rfl) (Nat.le_of_ble_eq_true rfl) (fun q hq => pX26_bad (by omega) hq) (fun q4 hf => ?_)
    exact (pX26_weigh_b101 hd hf).to ⟨rfl, trivial⟩
  · replace hf := (if_neg (show ¬ (s0 = 0) from c1)).symm.trans hf
    refine w_sipush dX26_weigh_86 (v := 10001) (by decide) ?_
    refine w_goto 101 dX26_weigh_89 (by decide) ?_
    exact (pX26_weigh_b101 hd hf).to ⟨rfl, trivial⟩
def fX26_weigh (this : Nat) (p0 : Int64) (p1 : Nat) (h : eH) : Option (Unit × eH) :=
  if (lg_cmp p0 (0 : Int64)) ≤ 0 then
    (g_J 22 h p1 9).bind fun x2 =>
    if (lg_cmp (-p0) x2) ≤ 0 then
      fX26_weigh_b78 this p0 p1 (0 : Int32) h
    else
      fX26_weigh_b78 this p0 p1 (1 : Int32) h
  else
    (g_I 22 h p1 11).bind fun x5 =>
    if x5 = 0 then
      (g_J 22 h p1 10).bind fun x8 =>
      (fX26_bad p0 x8 h).bind fun q10 =>
      fX26_weigh_b26 this this q10.1 q10.2
    else
      fX26_weigh_b26 this this (0 : Int32) h
theorem pX26_weigh {w : eW} {d : Nat} (hd : 1 ≤ d) {this : Nat} {p0 : Int64} {p1 : Nat} {h : eH} {q} (hf : fX26_weigh this p0 p1 h = some q) : wm w d YX26_weigh [.ref this, .long p0, .ref p1] h (e_is (e_rn c_V q)) := by
  obtain ⟨d, rfl⟩ : ∃ e, d = e + 1 := ⟨d - 1, by omega⟩
  show wp w (d + 1) YX26_weigh 0 [some (.ref this), some (.long p0), none, some (.ref p1), none] [] h _
  unfold fX26_weigh at hf
  refine w_lload_n dX26_weigh_0 rfl rfl ?_
  refine w_lconst dX26_weigh_1 (v := 0) (by decide) ?_
  refine w_lcmp dX26_weigh_2 ?_
  refine w_if_le 63 dX26_weigh_3 (by decide) (fun c1 => ?_) (fun c1 => ?_)
  · replace hf := (if_pos (show (lg_cmp p0 (0 : Int64)) ≤ 0 from c1)).symm.trans hf
    refine w_lload_n dX26_weigh_63 rfl rfl ?_
    refine w_lneg dX26_weigh_64 ?_
    refine w_aload_n dX26_weigh_65 rfl rfl ?_
    obtain ⟨x2, b3, hf⟩ := Option.bind_eq_some_iff.mp hf
    refine GX26_44 b3 dX26_weigh_66 rfl ?_
    refine w_lcmp dX26_weigh_69 ?_
    refine w_if_le 77 dX26_weigh_70 (by decide) (fun c4 => ?_) (fun c4 => ?_)
    · replace hf := (if_pos (show (lg_cmp (-p0) x2) ≤ 0 from c4)).symm.trans hf
      refine w_iconst dX26_weigh_77 (v := 0) (by decide) ?_
      exact (pX26_weigh_b78 hd hf).to ⟨rfl, rfl, rfl, trivial⟩
    · replace hf := (if_neg (show ¬ ((lg_cmp (-p0) x2) ≤ 0) from c4)).symm.trans hf
      refine w_iconst dX26_weigh_73 (v := 1) (by decide) ?_
      refine w_goto 78 dX26_weigh_74 (by decide) ?_
      exact (pX26_weigh_b78 hd hf).to ⟨rfl, rfl, rfl, trivial⟩
  · replace hf := (if_neg (show ¬ ((lg_cmp p0 (0 : Int64)) ≤ 0) from c1)).symm.trans hf
    refine w_aload_n dX26_weigh_6 rfl rfl ?_
    refine w_aload_n dX26_weigh_7 rfl rfl ?_
    obtain ⟨x5, b6, hf⟩ := Option.bind_eq_some_iff.mp hf
    refine GX26_21 b6 dX26_weigh_8 rfl ?_
    refine w_if_eq 18 dX26_weigh_11 (by decide) (fun c7 => ?_) (fun c7 => ?_)
    · replace hf := (if_pos (show x5 = 0 from c7)).symm.trans hf
      refine w_lload_n dX26_weigh_18 rfl rfl ?_
      refine w_aload_n dX26_weigh_19 rfl rfl ?_
      obtain ⟨x8, b9, hf⟩ := Option.bind_eq_some_iff.mp hf
      refine GX26_27 b9 dX26_weigh_20 rfl ?_
      refine x_cnI hf (e_stS (Yc := YX26_bad) (av := [.long p0, .long x8]) (st := [.ref this]) dX26_weigh_23 q3786 mX26_bad) mX26_bad.2.2.1 mX26_bad.2.2.2.2.1 (Nat.le_of_ble_eq_true rfl) (Nat.le_of_ble_eq_true rfl) (fun q hq => pX26_bad (by omega) hq) (fun q10 hf => ?_)
      exact (pX26_weigh_b26 hd hf).to ⟨rfl, trivial⟩
    · replace hf := (if_neg (show ¬ (x5 = 0) from c7)).symm.trans hf
      refine w_iconst dX26_weigh_14 (v := 0) (by decide) ?_
      refine w_goto 26 dX26_weigh_15 (by decide) ?_
      exact (pX26_weigh_b26 hd hf).to ⟨rfl, trivial⟩
abbrev cX24_demerits : ByteArray := prog_24_method_5_code
def yX24_demerits : MethodName := ⟨RX24, "demerits", "(II)J"⟩
def YX24_demerits : eY := (yX24_demerits, cX24_demerits, 9, (Option.some FieldType.long), [])
theorem mX24_demerits : e_mv YX24_demerits RX24 2 := ⟨q3801, qs173, q3802, by decide, by decide +kernel, (e_sig (by decide +kernel))⟩
theorem dX24_demerits_0 : decode cX24_demerits 0 = .ok (.aload_n 0, 1) := dc_42 (by decide +kernel)
theorem dX24_demerits_1 : decode cX24_demerits 1 = .ok (.getfield 41, 3) := dc_180 (a := 0) (b := 41) (n := 41) (by decide +kernel)
theorem dX24_demerits_4 : decode cX24_demerits 4 = .ok (.iconst 2, 1) := dc_5 (by decide +kernel)
theorem dX24_demerits_5 : decode cX24_demerits 5 = .ok (.iaload, 1) := dc_46 (by decide +kernel)
theorem dX24_demerits_6 : decode cX24_demerits 6 = .ok (.aload_n 0, 1) := dc_42 (by decide +kernel)
theorem dX24_demerits_7 : decode cX24_demerits 7 = .ok (.getfield 21, 3) := dc_180 (a := 0) (b := 21) (n := 21) (by decide +kernel)
theorem dX24_demerits_10 : decode cX24_demerits 10 = .ok (.getfield 78, 3) := dc_180 (a := 0) (b := 78) (n := 78) (by decide +kernel)
theorem dX24_demerits_13 : decode cX24_demerits 13 = .ok (.iadd, 1) := dc_96 (by decide +kernel)
theorem dX24_demerits_14 : decode cX24_demerits 14 = .ok (.istore_n 3, 1) := dc_62 (by decide +kernel)
theorem dX24_demerits_15 : decode cX24_demerits 15 = .ok (.iload_n 3, 1) := dc_29 (by decide +kernel)
theorem dX24_demerits_16 : decode cX24_demerits 16 = .ok (.invokestatic 81, 3) := dc_184 (a := 0) (b := 81) (n := 81) (by decide +kernel)
theorem dX24_demerits_19 : decode cX24_demerits 19 = .ok (.sipush 10000, 3) := dc_17 (a := 39) (b := 16) (v := 10000) (by decide +kernel)
theorem dX24_demerits_22 : decode cX24_demerits 22 = .ok (.if_icmp .lt 9, 3) := dc_161 (a := 0) (b := 9) (v := 9) (by decide +kernel)
theorem dX24_demerits_25 : decode cX24_demerits 25 = .ok (.ldc2_w 86, 3) := dc_20 (a := 0) (b := 86) (n := 86) (by decide +kernel)
theorem dX24_demerits_28 : decode cX24_demerits 28 = .ok (.goto 8, 3) := dc_167 (a := 0) (b := 8) (v := 8) (by decide +kernel)
theorem dX24_demerits_31 : decode cX24_demerits 31 = .ok (.iload_n 3, 1) := dc_29 (by decide +kernel)
theorem dX24_demerits_32 : decode cX24_demerits 32 = .ok (.i2l, 1) := dc_133 (by decide +kernel)
theorem dX24_demerits_33 : decode cX24_demerits 33 = .ok (.iload_n 3, 1) := dc_29 (by decide +kernel)
theorem dX24_demerits_34 : decode cX24_demerits 34 = .ok (.i2l, 1) := dc_133 (by decide +kernel)
theorem dX24_demerits_35 : decode cX24_demerits 35 = .ok (.lmul, 1) := dc_105 (by decide +kernel)
theorem dX24_demerits_36 : decode cX24_demerits 36 = .ok (.lstore 4, 2) := dc_55 (a := 4) (by decide +kernel)
theorem dX24_demerits_38 : decode cX24_demerits 38 = .ok (.aload_n 0, 1) := dc_42 (by decide +kernel)
theorem dX24_demerits_39 : decode cX24_demerits 39 = .ok (.iload_n 2, 1) := dc_28 (by decide +kernel)
theorem dX24_demerits_40 : decode cX24_demerits 40 = .ok (.invokevirtual 63, 3) := dc_182 (a := 0) (b := 63) (n := 63) (by decide +kernel)
theorem dX24_demerits_43 : decode cX24_demerits 43 = .ok (.i2l, 1) := dc_133 (by decide +kernel)
theorem dX24_demerits_44 : decode cX24_demerits 44 = .ok (.lstore 6, 2) := dc_55 (a := 6) (by decide +kernel)
theorem dX24_demerits_46 : decode cX24_demerits 46 = .ok (.lload 6, 2) := dc_22 (a := 6) (by decide +kernel)
theorem dX24_demerits_48 : decode cX24_demerits 48 = .ok (.lconst 0, 1) := dc_9 (by decide +kernel)
theorem dX24_demerits_49 : decode cX24_demerits 49 = .ok (.lcmp, 1) := dc_148 (by decide +kernel)
theorem dX24_demerits_50 : decode cX24_demerits 50 = .ok (.ifCond .le 16, 3) := dc_158 (a := 0) (b := 16) (v := 16) (by decide +kernel)
theorem dX24_demerits_53 : decode cX24_demerits 53 = .ok (.lload 4, 2) := dc_22 (a := 4) (by decide +kernel)
theorem dX24_demerits_55 : decode cX24_demerits 55 = .ok (.lload 6, 2) := dc_22 (a := 6) (by decide +kernel)
theorem dX24_demerits_57 : decode cX24_demerits 57 = .ok (.lload 6, 2) := dc_22 (a := 6) (by decide +kernel)
theorem dX24_demerits_59 : decode cX24_demerits 59 = .ok (.lmul, 1) := dc_105 (by decide +kernel)
theorem dX24_demerits_60 : decode cX24_demerits 60 = .ok (.ladd, 1) := dc_97 (by decide +kernel)
theorem dX24_demerits_61 : decode cX24_demerits 61 = .ok (.lstore 4, 2) := dc_55 (a := 4) (by decide +kernel)
theorem dX24_demerits_63 : decode cX24_demerits 63 = .ok (.goto 22, 3) := dc_167 (a := 0) (b := 22) (v := 22) (by decide +kernel)
theorem dX24_demerits_66 : decode cX24_demerits 66 = .ok (.lload 6, 2) := dc_22 (a := 6) (by decide +kernel)
theorem dX24_demerits_68 : decode cX24_demerits 68 = .ok (.ldc2_w 88, 3) := dc_20 (a := 0) (b := 88) (n := 88) (by decide +kernel)
theorem dX24_demerits_71 : decode cX24_demerits 71 = .ok (.lcmp, 1) := dc_148 (by decide +kernel)
theorem dX24_demerits_72 : decode cX24_demerits 72 = .ok (.ifCond .le 13, 3) := dc_158 (a := 0) (b := 13) (v := 13) (by decide +kernel)
theorem dX24_demerits_75 : decode cX24_demerits 75 = .ok (.lload 4, 2) := dc_22 (a := 4) (by decide +kernel)
theorem dX24_demerits_77 : decode cX24_demerits 77 = .ok (.lload 6, 2) := dc_22 (a := 6) (by decide +kernel)
theorem dX24_demerits_79 : decode cX24_demerits 79 = .ok (.lload 6, 2) := dc_22 (a := 6) (by decide +kernel)
theorem dX24_demerits_81 : decode cX24_demerits 81 = .ok (.lmul, 1) := dc_105 (by decide +kernel)
theorem dX24_demerits_82 : decode cX24_demerits 82 = .ok (.lsub, 1) := dc_101 (by decide +kernel)
theorem dX24_demerits_83 : decode cX24_demerits 83 = .ok (.lstore 4, 2) := dc_55 (a := 4) (by decide +kernel)
theorem dX24_demerits_85 : decode cX24_demerits 85 = .ok (.aload_n 0, 1) := dc_42 (by decide +kernel)
theorem dX24_demerits_86 : decode cX24_demerits 86 = .ok (.getfield 12, 3) := dc_180 (a := 0) (b := 12) (n := 12) (by decide +kernel)
theorem dX24_demerits_89 : decode cX24_demerits 89 = .ok (.getfield 90, 3) := dc_180 (a := 0) (b := 90) (n := 90) (by decide +kernel)
theorem dX24_demerits_92 : decode cX24_demerits 92 = .ok (.iload_n 1, 1) := dc_27 (by decide +kernel)
theorem dX24_demerits_93 : decode cX24_demerits 93 = .ok (.iaload, 1) := dc_46 (by decide +kernel)
theorem dX24_demerits_94 : decode cX24_demerits 94 = .ok (.istore 8, 2) := dc_54 (a := 8) (by decide +kernel)
theorem dX24_demerits_96 : decode cX24_demerits 96 = .ok (.iload 8, 2) := dc_21 (a := 8) (by decide +kernel)
theorem dX24_demerits_98 : decode cX24_demerits 98 = .ok (.iconst (-1), 1) := dc_2 (by decide +kernel)
theorem dX24_demerits_99 : decode cX24_demerits 99 = .ok (.if_icmp .eq 70, 3) := dc_159 (a := 0) (b := 70) (v := 70) (by decide +kernel)
theorem dX24_demerits_102 : decode cX24_demerits 102 = .ok (.aload_n 0, 1) := dc_42 (by decide +kernel)
theorem dX24_demerits_103 : decode cX24_demerits 103 = .ok (.getfield 33, 3) := dc_180 (a := 0) (b := 33) (n := 33) (by decide +kernel)
theorem dX24_demerits_106 : decode cX24_demerits 106 = .ok (.getfield 47, 3) := dc_180 (a := 0) (b := 47) (n := 47) (by decide +kernel)
theorem dX24_demerits_109 : decode cX24_demerits 109 = .ok (.iload 8, 2) := dc_21 (a := 8) (by decide +kernel)
theorem dX24_demerits_111 : decode cX24_demerits 111 = .ok (.baload, 1) := dc_51 (by decide +kernel)
theorem dX24_demerits_112 : decode cX24_demerits 112 = .ok (.iconst 5, 1) := dc_8 (by decide +kernel)
theorem dX24_demerits_113 : decode cX24_demerits 113 = .ok (.if_icmp .ne 56, 3) := dc_160 (a := 0) (b := 56) (v := 56) (by decide +kernel)
theorem dX24_demerits_116 : decode cX24_demerits 116 = .ok (.lload 4, 2) := dc_22 (a := 4) (by decide +kernel)
theorem dX24_demerits_118 : decode cX24_demerits 118 = .ok (.aload_n 0, 1) := dc_42 (by decide +kernel)
theorem dX24_demerits_119 : decode cX24_demerits 119 = .ok (.getfield 33, 3) := dc_180 (a := 0) (b := 33) (n := 33) (by decide +kernel)
theorem dX24_demerits_122 : decode cX24_demerits 122 = .ok (.getfield 47, 3) := dc_180 (a := 0) (b := 47) (n := 47) (by decide +kernel)
theorem dX24_demerits_125 : decode cX24_demerits 125 = .ok (.iload_n 2, 1) := dc_28 (by decide +kernel)
theorem dX24_demerits_126 : decode cX24_demerits 126 = .ok (.baload, 1) := dc_51 (by decide +kernel)
theorem dX24_demerits_127 : decode cX24_demerits 127 = .ok (.iconst 5, 1) := dc_8 (by decide +kernel)
theorem dX24_demerits_128 : decode cX24_demerits 128 = .ok (.if_icmp .ne 13, 3) := dc_160 (a := 0) (b := 13) (v := 13) (by decide +kernel)
theorem dX24_demerits_131 : decode cX24_demerits 131 = .ok (.aload_n 0, 1) := dc_42 (by decide +kernel)
theorem dX24_demerits_132 : decode cX24_demerits 132 = .ok (.getfield 41, 3) := dc_180 (a := 0) (b := 41) (n := 41) (by decide +kernel)
theorem dX24_demerits_135 : decode cX24_demerits 135 = .ok (.iconst 5, 1) := dc_8 (by decide +kernel)
theorem dX24_demerits_136 : decode cX24_demerits 136 = .ok (.iaload, 1) := dc_46 (by decide +kernel)
theorem dX24_demerits_137 : decode cX24_demerits 137 = .ok (.i2l, 1) := dc_133 (by decide +kernel)
theorem dX24_demerits_138 : decode cX24_demerits 138 = .ok (.goto 28, 3) := dc_167 (a := 0) (b := 28) (v := 28) (by decide +kernel)
theorem dX24_demerits_141 : decode cX24_demerits 141 = .ok (.iload_n 2, 1) := dc_28 (by decide +kernel)
theorem dX24_demerits_142 : decode cX24_demerits 142 = .ok (.aload_n 0, 1) := dc_42 (by decide +kernel)
theorem dX24_demerits_143 : decode cX24_demerits 143 = .ok (.getfield 33, 3) := dc_180 (a := 0) (b := 33) (n := 33) (by decide +kernel)
theorem dX24_demerits_146 : decode cX24_demerits 146 = .ok (.getfield 70, 3) := dc_180 (a := 0) (b := 70) (n := 70) (by decide +kernel)
theorem dX24_demerits_149 : decode cX24_demerits 149 = .ok (.iconst 1, 1) := dc_4 (by decide +kernel)
theorem dX24_demerits_150 : decode cX24_demerits 150 = .ok (.isub, 1) := dc_100 (by decide +kernel)
theorem dX24_demerits_151 : decode cX24_demerits 151 = .ok (.if_icmp .ne 14, 3) := dc_160 (a := 0) (b := 14) (v := 14) (by decide +kernel)
theorem dX24_demerits_154 : decode cX24_demerits 154 = .ok (.aload_n 0, 1) := dc_42 (by decide +kernel)
theorem dX24_demerits_155 : decode cX24_demerits 155 = .ok (.getfield 41, 3) := dc_180 (a := 0) (b := 41) (n := 41) (by decide +kernel)
theorem dX24_demerits_158 : decode cX24_demerits 158 = .ok (.bipush 6, 2) := dc_16 (a := 6) (v := 6) (by decide +kernel)
theorem dX24_demerits_160 : decode cX24_demerits 160 = .ok (.iaload, 1) := dc_46 (by decide +kernel)
theorem dX24_demerits_161 : decode cX24_demerits 161 = .ok (.i2l, 1) := dc_133 (by decide +kernel)
theorem dX24_demerits_162 : decode cX24_demerits 162 = .ok (.goto 4, 3) := dc_167 (a := 0) (b := 4) (v := 4) (by decide +kernel)
theorem dX24_demerits_165 : decode cX24_demerits 165 = .ok (.lconst 0, 1) := dc_9 (by decide +kernel)
theorem dX24_demerits_166 : decode cX24_demerits 166 = .ok (.ladd, 1) := dc_97 (by decide +kernel)
theorem dX24_demerits_167 : decode cX24_demerits 167 = .ok (.lstore 4, 2) := dc_55 (a := 4) (by decide +kernel)
theorem dX24_demerits_169 : decode cX24_demerits 169 = .ok (.aload_n 0, 1) := dc_42 (by decide +kernel)
theorem dX24_demerits_170 : decode cX24_demerits 170 = .ok (.getfield 12, 3) := dc_180 (a := 0) (b := 12) (n := 12) (by decide +kernel)
theorem dX24_demerits_173 : decode cX24_demerits 173 = .ok (.getfield 93, 3) := dc_180 (a := 0) (b := 93) (n := 93) (by decide +kernel)
theorem dX24_demerits_176 : decode cX24_demerits 176 = .ok (.iload_n 1, 1) := dc_27 (by decide +kernel)
theorem dX24_demerits_177 : decode cX24_demerits 177 = .ok (.baload, 1) := dc_51 (by decide +kernel)
theorem dX24_demerits_178 : decode cX24_demerits 178 = .ok (.aload_n 0, 1) := dc_42 (by decide +kernel)
theorem dX24_demerits_179 : decode cX24_demerits 179 = .ok (.getfield 21, 3) := dc_180 (a := 0) (b := 21) (n := 21) (by decide +kernel)
theorem dX24_demerits_182 : decode cX24_demerits 182 = .ok (.getfield 96, 3) := dc_180 (a := 0) (b := 96) (n := 96) (by decide +kernel)
theorem dX24_demerits_185 : decode cX24_demerits 185 = .ok (.isub, 1) := dc_100 (by decide +kernel)
theorem dX24_demerits_186 : decode cX24_demerits 186 = .ok (.invokestatic 81, 3) := dc_184 (a := 0) (b := 81) (n := 81) (by decide +kernel)
theorem dX24_demerits_189 : decode cX24_demerits 189 = .ok (.iconst 1, 1) := dc_4 (by decide +kernel)
theorem dX24_demerits_190 : decode cX24_demerits 190 = .ok (.if_icmp .le 17, 3) := dc_164 (a := 0) (b := 17) (v := 17) (by decide +kernel)
theorem dX24_demerits_193 : decode cX24_demerits 193 = .ok (.lload 4, 2) := dc_22 (a := 4) (by decide +kernel)
theorem dX24_demerits_195 : decode cX24_demerits 195 = .ok (.aload_n 0, 1) := dc_42 (by decide +kernel)
theorem dX24_demerits_196 : decode cX24_demerits 196 = .ok (.getfield 41, 3) := dc_180 (a := 0) (b := 41) (n := 41) (by decide +kernel)
theorem dX24_demerits_199 : decode cX24_demerits 199 = .ok (.bipush 7, 2) := dc_16 (a := 7) (v := 7) (by decide +kernel)
theorem dX24_demerits_201 : decode cX24_demerits 201 = .ok (.iaload, 1) := dc_46 (by decide +kernel)
theorem dX24_demerits_202 : decode cX24_demerits 202 = .ok (.i2l, 1) := dc_133 (by decide +kernel)
theorem dX24_demerits_203 : decode cX24_demerits 203 = .ok (.ladd, 1) := dc_97 (by decide +kernel)
theorem dX24_demerits_204 : decode cX24_demerits 204 = .ok (.goto 5, 3) := dc_167 (a := 0) (b := 5) (v := 5) (by decide +kernel)
theorem dX24_demerits_207 : decode cX24_demerits 207 = .ok (.lload 4, 2) := dc_22 (a := 4) (by decide +kernel)
theorem dX24_demerits_209 : decode cX24_demerits 209 = .ok (.lreturn, 1) := dc_173 (by decide +kernel)
theorem GX24_12 {w : eW} {d : Nat} {Y : eY} {pc : Nat} {ls : eL} {st : List Value} {h : eH} {Q : eO → eH → Prop} {a : Nat} {x : Nat} (hf : g_A 23 h a 4 = some x) (hd : decode Y.2.1 pc = .ok (.getfield 12, 3)) (hY : Y.1.cls = RX24) (kk : wp w d Y (pc + 3) ls (.ref x :: st) h Q) : wp w d Y pc ls (.ref a :: st) h Q := x_gA (ci := 23) (k := 4) hf hd rfl (by decide) (by rw [hY]; exact q1396) kk
theorem GX24_21 {w : eW} {d : Nat} {Y : eY} {pc : Nat} {ls : eL} {st : List Value} {h : eH} {Q : eO → eH → Prop} {a : Nat} {x : Nat} (hf : g_A 23 h a 5 = some x) (hd : decode Y.2.1 pc = .ok (.getfield 21, 3)) (hY : Y.1.cls = RX24) (kk : wp w d Y (pc + 3) ls (.ref x :: st) h Q) : wp w d Y pc ls (.ref a :: st) h Q := x_gA (ci := 23) (k := 5) hf hd rfl (by decide) (by rw [hY]; exact q1398) kk
theorem GX24_78 {w : eW} {d : Nat} {Y : eY} {pc : Nat} {ls : eL} {st : List Value} {h : eH} {Q : eO → eH → Prop} {a : Nat} {x : Int32} (hf : g_I 25 h a 0 = some x) (hd : decode Y.2.1 pc = .ok (.getfield 78, 3)) (hY : Y.1.cls = RX24) (kk : wp w d Y (pc + 3) ls (.int x :: st) h Q) : wp w d Y pc ls (.ref a :: st) h Q := x_gIN (ci := 25) (k := 0) hf hd rfl (by decide) (by rw [hY]; exact q1384) kk
theorem GX24_90 {w : eW} {d : Nat} {Y : eY} {pc : Nat} {ls : eL} {st : List Value} {h : eH} {Q : eO → eH → Prop} {a : Nat} {x : Nat} (hf : g_A 24 h a 0 = some x) (hd : decode Y.2.1 pc = .ok (.getfield 90, 3)) (hY : Y.1.cls = RX24) (kk : wp w d Y (pc + 3) ls (.ref x :: st) h Q) : wp w d Y pc ls (.ref a :: st) h Q := x_gAN (ci := 24) (k := 0) hf hd rfl (by decide) (by rw [hY]; exact q1342) kk
theorem GX24_93 {w : eW} {d : Nat} {Y : eY} {pc : Nat} {ls : eL} {st : List Value} {h : eH} {Q : eO → eH → Prop} {a : Nat} {x : Nat} (hf : g_A 24 h a 2 = some x) (hd : decode Y.2.1 pc = .ok (.getfield 93, 3)) (hY : Y.1.cls = RX24) (kk : wp w d Y (pc + 3) ls (.ref x :: st) h Q) : wp w d Y pc ls (.ref a :: st) h Q := x_gAN (ci := 24) (k := 2) hf hd rfl (by decide) (by rw [hY]; exact q1348) kk
theorem GX24_96 {w : eW} {d : Nat} {Y : eY} {pc : Nat} {ls : eL} {st : List Value} {h : eH} {Q : eO → eH → Prop} {a : Nat} {x : Int32} (hf : g_I 25 h a 1 = some x) (hd : decode Y.2.1 pc = .ok (.getfield 96, 3)) (hY : Y.1.cls = RX24) (kk : wp w d Y (pc + 3) ls (.int x :: st) h Q) : wp w d Y pc ls (.ref a :: st) h Q := x_gIN (ci := 25) (k := 1) hf hd rfl (by decide) (by rw [hY]; exact q1386) kk
def fX24_demerits_b209 (s0 : Int64) (h : eH) : Option (Int64 × eH) :=
  some (s0, h)
theorem pX24_demerits_b209 {w : eW} {d : Nat} (hd : 1 ≤ d + 1) {s0 : Int64} {h : eH} {q} (hf : fX24_demerits_b209 s0 h = some q) : wp w (d + 1) YX24_demerits 209 [none, none, none, none, none, none, none, none, none] [.long s0] h (e_is (e_rn c_J q)) := by
  unfold fX24_demerits_b209 at hf
  cases hf
  exact w_lret dX24_demerits_209 rfl rfl
def fX24_demerits_b169 (l0 : Nat) (l1 : Int32) (l4 : Int64) (h : eH) : Option (Int64 × eH) :=
  (g_A 23 h l0 4).bind fun a1 =>
  (g_A 24 h a1 2).bind fun a3 =>
  (r_I 102 h a3 l1).bind fun x5 =>
  (g_A 23 h l0 5).bind fun a7 =>
  (g_I 25 h a7 1).bind fun x9 =>
  if (m_absI (x5 - x9)) ≤ (1 : Int32) then
    fX24_demerits_b209 l4 h
  else
    (g_A 23 h l0 2).bind fun a12 =>
    (r_I 100 h a12 (7 : Int32)).bind fun x14 =>
    fX24_demerits_b209 (l4 + (x14).toInt64) h
theorem pX24_demerits_b169 {w : eW} {d : Nat} (hd : 1 ≤ d + 1) {l0 : Nat} {l1 : Int32} {l4 : Int64} {h : eH} {q} (hf : fX24_demerits_b169 l0 l1 l4 h = some q) : wp w (d + 1) YX24_demerits 169 [some (.ref l0), some (.int l1), none, none, some (.long l4), none, none, none, none] [] h (e_is (e_rn c_J q)) := by
  unfold fX24_demerits_b169 at hf
  refine w_aload_n dX24_demerits_169 rfl rfl ?_
  obtain ⟨a1, b2, hf⟩ := Option.bind_eq_some_iff.mp hf
  refine GX24_12 b2 dX24_demerits_170 rfl ?_
  obtain ⟨a3, b4, hf⟩ := Option.bind_eq_some_iff.mp hf
  refine GX24_93 b4 dX24_demerits_173 rfl ?_
  refine w_iload_n dX24_demerits_176 rfl rfl ?_
  obtain ⟨x5, b6, hf⟩ := Option.bind_eq_some_iff.mp hf
  refine x_rB b6 dX24_demerits_177 ?_
  refine w_aload_n dX24_demerits_178 rfl rfl ?_
  obtain ⟨a7, b8, hf⟩ := Option.bind_eq_some_iff.mp hf
  refine GX24_21 b8 dX24_demerits_179 rfl ?_
  obtain ⟨x9, b10, hf⟩ := Option.bind_eq_some_iff.mp hf
  refine GX24_96 b10 dX24_demerits_182 rfl ?_
  refine w_isub dX24_demerits_185 ?_
  refine x_absI dX24_demerits_186 q3803 q3804 q478 q3805 (Nat.le_of_ble_eq_true rfl) ?_
  refine w_iconst dX24_demerits_189 (v := 1) (by decide) ?_
  refine w_icmp_le 207 dX24_demerits_190 (by decide) (fun c11 => ?_) (fun c11 => ?_)
  · replace hf := (if_pos (show (m_absI (x5 - x9)) ≤ (1 : Int32) from c11)).symm.trans hf
    refine w_lload dX24_demerits_207 rfl ?_
    exact (pX24_demerits_b209 hd hf).to trivial
  · replace hf := (if_neg (show ¬ ((m_absI (x5 - x9)) ≤ (1 : Int32)) from c11)).symm.trans hf
    refine w_lload dX24_demerits_193 rfl ?_
    refine w_aload_n dX24_demerits_195 rfl rfl ?_
    obtain ⟨a12, b13, hf⟩ := Option.bind_eq_some_iff.mp hf
    refine GX24_41 b13 dX24_demerits_196 rfl ?_
    refine w_bipush dX24_demerits_199 (v := 7) (by decide) ?_
    obtain ⟨x14, b15, hf⟩ := Option.bind_eq_some_iff.mp hf
    refine x_rI b15 dX24_demerits_201 ?_
    refine w_i2l dX24_demerits_202 ?_
    refine w_ladd dX24_demerits_203 ?_
    refine w_goto 209 dX24_demerits_204 (by decide) ?_
    exact (pX24_demerits_b209 hd hf).to trivial
def fX24_demerits_b166 (l0 : Nat) (l1 : Int32) (s0 : Int64) (s1 : Int64) (h : eH) : Option (Int64 × eH) :=
  fX24_demerits_b169 l0 l1 (s0 + s1) h
theorem pX24_demerits_b166 {w : eW} {d : Nat} (hd : 1 ≤ d + 1) {l0 : Nat} {l1 : Int32} {s0 : Int64} {s1 : Int64} {h : eH} {q} (hf : fX24_demerits_b166 l0 l1 s0 s1 h = some q) : wp w (d + 1) YX24_demerits 166 [some (.ref l0), some (.int l1), none, none, none, none, none, none, none] [.long s1, .long s0] h (e_is (e_rn c_J q)) := by
  unfold fX24_demerits_b166 at hf
  refine w_ladd dX24_demerits_166 ?_
  refine w_lstore dX24_demerits_167 (by decide) (ls' := [some (.ref l0), some (.int l1), none, none, some (.long (s0 + s1)), none, none, none, none]) rfl ?_
  exact (pX24_demerits_b169 hd hf).to ⟨rfl, rfl, rfl, trivial⟩
def fX24_demerits_b85 (l0 : Nat) (l1 : Int32) (l2 : Int32) (l4 : Int64) (h : eH) : Option (Int64 × eH) :=
  (g_A 23 h l0 4).bind fun a1 =>
  (g_A 24 h a1 0).bind fun a3 =>
  (r_I 100 h a3 l1).bind fun x5 =>
  if x5 = (-1 : Int32) then
    fX24_demerits_b169 l0 l1 l4 h
  else
    (g_A 23 h l0 0).bind fun a8 =>
    (g_A 21 h a8 0).bind fun a10 =>
    (r_I 102 h a10 x5).bind fun x12 =>
    if ¬ x12 = (5 : Int32) then
      fX24_demerits_b169 l0 l1 l4 h
    else
      (g_A 23 h l0 0).bind fun a15 =>
      (g_A 21 h a15 0).bind fun a17 =>
      (r_I 102 h a17 l2).bind fun x19 =>
      if ¬ x19 = (5 : Int32) then
        (g_A 23 h l0 0).bind fun a22 =>
        (g_I 21 h a22 5).bind fun x24 =>
        if ¬ l2 = (x24 - (1 : Int32)) then
          fX24_demerits_b166 l0 l1 l4 (0 : Int64) h
        else
          (g_A 23 h l0 2).bind fun a27 =>
          (r_I 100 h a27 (6 : Int32)).bind fun x29 =>
          fX24_demerits_b166 l0 l1 l4 (x29).toInt64 h
      else
        (g_A 23 h l0 2).bind fun a31 =>
        (r_I 100 h a31 (5 : Int32)).bind fun x33 =>
        fX24_demerits_b166 l0 l1 l4 (x33).toInt64 h
theorem pX24_demerits_b85 {w : eW} {d : Nat} (hd : 1 ≤ d + 1) {l0 : Nat} {l1 : Int32} {l2 : Int32} {l4 : Int64} {h : eH} {q} (hf : fX24_demerits_b85 l0 l1 l2 l4 h = some q) : wp w (d + 1) YX24_demerits 85 [some (.ref l0), some (.int l1), some (.int l2), none, some (.long l4), none, none, none, none] [] h (e_is (e_rn c_J q)) := by
  unfold fX24_demerits_b85 at hf
  refine w_aload_n dX24_demerits_85 rfl rfl ?_
  obtain ⟨a1, b2, hf⟩ := Option.bind_eq_some_iff.mp hf
  refine GX24_12 b2 dX24_demerits_86 rfl ?_
  obtain ⟨a3, b4, hf⟩ := Option.bind_eq_some_iff.mp hf
  refine GX24_90 b4 dX24_demerits_89 rfl ?_
  refine w_iload_n dX24_demerits_92 rfl rfl ?_
  obtain ⟨x5, b6, hf⟩ := Option.bind_eq_some_iff.mp hf
  refine x_rI b6 dX24_demerits_93 ?_
  refine w_istore dX24_demerits_94 (by decide) (ls' := [some (.ref l0), some (.int l1), some (.int l2), none, some (.long l4), none, none, none, some (.int x5)]) rfl ?_
  refine w_iload dX24_demerits_96 rfl ?_
  refine w_iconst dX24_demerits_98 (v := -1) (by decide) ?_
  refine w_icmp_eq 169 dX24_demerits_99 (by decide) (fun c7 => ?_) (fun c7 => ?_)
  · replace hf := (if_pos (show x5 = (-1 : Int32) from c7)).symm.trans hf
    exact (pX24_demerits_b169 hd hf).to ⟨rfl, rfl, rfl, trivial⟩
  · replace hf := (if_neg (show ¬ (x5 = (-1 : Int32)) from c7)).symm.trans hf
    refine w_aload_n dX24_demerits_102 rfl rfl ?_
    obtain ⟨a8, b9, hf⟩ := Option.bind_eq_some_iff.mp hf
    refine GX24_33 b9 dX24_demerits_103 rfl ?_
    obtain ⟨a10, b11, hf⟩ := Option.bind_eq_some_iff.mp hf
    refine GX24_47 b11 dX24_demerits_106 rfl ?_
    refine w_iload dX24_demerits_109 rfl ?_
    obtain ⟨x12, b13, hf⟩ := Option.bind_eq_some_iff.mp hf
    refine x_rB b13 dX24_demerits_111 ?_
    refine w_iconst dX24_demerits_112 (v := 5) (by decide) ?_
    refine w_icmp_ne 169 dX24_demerits_113 (by decide) (fun c14 => ?_) (fun c14 => ?_)
    · replace hf := (if_pos (show ¬ x12 = (5 : Int32) from c14)).symm.trans hf
      exact (pX24_demerits_b169 hd hf).to ⟨rfl, rfl, rfl, trivial⟩
    · replace hf := (if_neg (show ¬ (¬ x12 = (5 : Int32)) from (fun z => z c14))).symm.trans hf
      refine w_lload dX24_demerits_116 rfl ?_
      refine w_aload_n dX24_demerits_118 rfl rfl ?_
      obtain ⟨a15, b16, hf⟩ := Option.bind_eq_some_iff.mp hf
      refine GX24_33 b16 dX24_demerits_119 rfl ?_
      obtain ⟨a17, b18, hf⟩ := Option.bind_eq_some_iff.mp hf
      refine GX24_47 b18 dX24_demerits_122 rfl ?_
      refine w_iload_n dX24_demerits_125 rfl rfl ?_
      obtain ⟨x19, b20, hf⟩ := Option.bind_eq_some_iff.mp hf
      refine x_rB b20 dX24_demerits_126 ?_
      refine w_iconst dX24_demerits_127 (v := 5) (by decide) ?_
      refine w_icmp_ne 141 dX24_demerits_128 (by decide) (fun c21 => ?_) (fun c21 => ?_)
      · replace hf := (if_pos (show ¬ x19 = (5 : Int32) from c21)).symm.trans hf
        refine w_iload_n dX24_demerits_141 rfl rfl ?_
        refine w_aload_n dX24_demerits_142 rfl rfl ?_
        obtain ⟨a22, b23, hf⟩ := Option.bind_eq_some_iff.mp hf
        refine GX24_33 b23 dX24_demerits_143 rfl ?_
        obtain ⟨x24, b25, hf⟩ := Option.bind_eq_some_iff.mp hf
        refine GX24_70 b25 dX24_demerits_146 rfl ?_
        refine w_iconst dX24_demerits_149 (v := 1) (by decide) ?_
        refine w_isub dX24_demerits_150 ?_
        refine w_icmp_ne 165 dX24_demerits_151 (by decide) (fun c26 => ?_) (fun c26 => ?_)
        · replace hf := (if_pos (show ¬ l2 = (x24 - (1 : Int32)) from c26)).symm.trans hf
          refine w_lconst dX24_demerits_165 (v := 0) (by decide) ?_
          exact (pX24_demerits_b166 hd hf).to ⟨rfl, rfl, trivial⟩
        · replace hf := (if_neg (show ¬ (¬ l2 = (x24 - (1 : Int32))) from (fun z => z c26))).symm.trans hf
          refine w_aload_n dX24_demerits_154 rfl rfl ?_
          obtain ⟨a27, b28, hf⟩ := Option.bind_eq_some_iff.mp hf
          refine GX24_41 b28 dX24_demerits_155 rfl ?_
          refine w_bipush dX24_demerits_158 (v := 6) (by decide) ?_
          obtain ⟨x29, b30, hf⟩ := Option.bind_eq_some_iff.mp hf
          refine x_rI b30 dX24_demerits_160 ?_
          refine w_i2l dX24_demerits_161 ?_
          refine w_goto 166 dX24_demerits_162 (by decide) ?_
          exact (pX24_demerits_b166 hd hf).to ⟨rfl, rfl, trivial⟩
      · replace hf := (if_neg (show ¬ (¬ x19 = (5 : Int32)) from (fun z => z c21))).symm.trans hf
        refine w_aload_n dX24_demerits_131 rfl rfl ?_
        obtain ⟨a31, b32, hf⟩ := Option.bind_eq_some_iff.mp hf
        refine GX24_41 b32 dX24_demerits_132 rfl ?_
        refine w_iconst dX24_demerits_135 (v := 5) (by decide) ?_
        obtain ⟨x33, b34, hf⟩ := Option.bind_eq_some_iff.mp hf
        refine x_rI b34 dX24_demerits_136 ?_
        refine w_i2l dX24_demerits_137 ?_
        refine w_goto 166 dX24_demerits_138 (by decide) ?_
        exact (pX24_demerits_b166 hd hf).to ⟨rfl, rfl, trivial⟩
def fX24_demerits_b36 (l0 : Nat) (l1 : Int32) (l2 : Int32) (s0 : Int64) (h : eH) : Option (Int64 × eH) :=
  (k_ok 23 h l0).bind fun _ =>
  (fX24_penaltyOf l0 l2 h).bind fun q2 =>
  if (lg_cmp (q2.1).toInt64 (0 : Int64)) ≤ 0 then
    if (lg_cmp (q2.1).toInt64 (-10000 : Int64)) ≤ 0 then
      fX24_demerits_b85 l0 l1 l2 s0 q2.2
    else
      fX24_demerits_b85 l0 l1 l2 (s0 - ((q2.1).toInt64 * (q2.1).toInt64)) q2.2
  else
    fX24_demerits_b85 l0 l1 l2 (s0 + ((q2.1).toInt64 * (q2.1).toInt64)) q2.2
theorem pX24_demerits_b36 {w : eW} {d : Nat} (hd : 1 ≤ d + 1) {l0 : Nat} {l1 : Int32} {l2 : Int32} {s0 : Int64} {h : eH} {q} (hf : fX24_demerits_b36 l0 l1 l2 s0 h = some q) : wp w (d + 1) YX24_demerits 36 [some (.ref l0), some (.int l1), some (.int l2), none, none, none, none, none, none] [.long s0] h (e_is (e_rn c_J q)) := by
  unfold fX24_demerits_b36 at hf
  refine w_lstore dX24_demerits_36 (by decide) (ls' := [some (.ref l0), some (.int l1), some (.int l2), none, some (.long s0), none, none, none, none]) rfl ?_
  refine w_aload_n dX24_demerits_38 rfl rfl ?_
  refine w_iload_n dX24_demerits_39 rfl rfl ?_
  obtain ⟨_, b1, hf⟩ := Option.bind_eq_some_iff.mp hf
  refine x_cnI hf (e_stV (Yc := YX24_penaltyOf) (ci := 23) (av := [.int l2]) (st := []) dX24_demerits_40 q3759 mX24_penaltyOf rfl (k_ok_some b1).1 (k_ok_some b1).2) mX24_penaltyOf.2.2.1 mX24_penaltyOf.2.2.2.2.1 (Nat.le_of_ble_eq_true rfl) (Nat.le_of_ble_eq_true rfl) (fun q hq => pX24_penaltyOf (by omega) hq) (fun q2 hf => ?_)
  refine w_i2l dX24_demerits_43 ?_
  refine w_lstore dX24_demerits_44 (by decide) (ls' := [some (.ref l0), some (.int l1), some (.int l2), none, some (.long s0), none, some (.long (q2.1).toInt64), none, none]) rfl ?_
  refine w_lload dX24_demerits_46 rfl ?_
  refine w_lconst dX24_demerits_48 (v := 0) (by decide) ?_
  refine w_lcmp dX24_demerits_49 ?_
  refine w_if_le 66 dX24_demerits_50 (by decide) (fun c3 => ?_) (fun c3 => ?_)
  · replace hf := (if_pos (show (lg_cmp (q2.1).toInt64 (0 : Int64)) ≤ 0 from c3)).symm.trans hf
    refine w_lload dX24_demerits_66 rfl ?_
    refine w_ldc2 dX24_demerits_68 q3807 ?_
    refine w_lcmp dX24_demerits_71 ?_
    refine w_if_le 85 dX24_demerits_72 (by decide) (fun c4 => ?_) (fun c4 => ?_)
    · replace hf := (if_pos (show (lg_cmp (q2.1).toInt64 (-10000 : Int64)) ≤ 0 from c4)).symm.trans hf
      exact (pX24_demerits_b85 hd hf).to ⟨rfl, rfl, rfl, rfl, trivial⟩
    · replace hf := (if_neg (show ¬ ((lg_cmp (q2.1).toInt64 (-10000 : Int64)) ≤ 0) from c4)).symm.trans hf
      refine w_lload dX24_demerits_75 rfl ?_
      refine w_lload dX24_demerits_77 rfl ?_
      refine w_lload dX24_demerits_79 rfl ?_
      refine w_lmul dX24_demerits_81 ?_
      refine w_lsub dX24_demerits_82 ?_
      refine w_lstore dX24_demerits_83 (by decide) (ls' := [some (.ref l0), some (.int l1), some (.int l2), none, some (.long (s0 - ((q2.1).toInt64 * (q2.1).toInt64))), none, some (.long (q2.1).toInt64), none, none]) rfl ?_
      exact (pX24_demerits_b85 hd hf).to ⟨rfl, rfl, rfl, rfl, trivial⟩
  · replace hf := (if_neg (show ¬ ((lg_cmp (q2.1).toInt64 (0 : Int64)) ≤ 0) from c3)).symm.trans hf
    refine w_lload dX24_demerits_53 rfl ?_
    refine w_lload dX24_demerits_55 rfl ?_
    refine w_lload dX24_demerits_57 rfl ?_
    refine w_lmul dX24_demerits_59 ?_
    refine w_ladd dX24_demerits_60 ?_
    refine w_lstore dX24_demerits_61 (by decide) (ls' := [some (.ref l0), some (.int l1), some (.int l2), none, some (.long (s0 + ((q2.1).toInt64 * (q2.1).toInt64))), none, some (.long (q2.1).toInt64), none, none]) rfl ?_
    refine w_goto 85 dX24_demerits_63 (by decide) ?_
    exact (pX24_demerits_b85 hd hf).to ⟨rfl, rfl, rfl, rfl, trivial⟩
def fX24_demerits (this : Nat) (p0 : Int32) (p1 : Int32) (h : eH) : Option (Int64 × eH) :=
  (g_A 23 h this 2).bind fun a1 =>
  (r_I 100 h a1 (2 : Int32)).bind fun x3 =>
  (g_A 23 h this 5).bind fun a5 =>
  (g_I 25 h a5 0).bind fun x7 =>
  if (m_absI (x3 + x7)) < (10000 : Int32) then
    fX24_demerits_b36 this p0 p1 (((x3 + x7)).toInt64 * ((x3 + x7)).toInt64) h
  else
    fX24_demerits_b36 this p0 p1 (100000000 : Int64) h
theorem pX24_demerits {w : eW} {d : Nat} (hd : 1 ≤ d) {this : Nat} {p0 : Int32} {p1 : Int32} {h : eH} {q} (hf : fX24_demerits this p0 p1 h = some q) : wm w d YX24_demerits [.ref this, .int p0, .int p1] h (e_is (e_rn c_J q)) := by
  obtain ⟨d, rfl⟩ : ∃ e, d = e + 1 := ⟨d - 1, by omega⟩
  show wp w (d + 1) YX24_demerits 0 [some (.ref this), some (.int p0), some (.int p1), none, none, none, none, none, none] [] h _
  unfold fX24_demerits at hf
  refine w_aload_n dX24_demerits_0 rfl rfl ?_
  obtain ⟨a1, b2, hf⟩ := Option.bind_eq_some_iff.mp hf
  refine GX24_41 b2 dX24_demerits_1 rfl ?_
  refine w_iconst dX24_demerits_4 (v := 2) (by decide) ?_
  obtain ⟨x3, b4, hf⟩ := Option.bind_eq_some_iff.mp hf
  refine x_rI b4 dX24_demerits_5 ?_
  refine w_aload_n dX24_demerits_6 rfl rfl ?_
  obtain ⟨a5, b6, hf⟩ := Option.bind_eq_some_iff.mp hf
  refine GX24_21 b6 dX24_demerits_7 rfl ?_
  obtain ⟨x7, b8, hf⟩ := Option.bind_eq_some_iff.mp hf
  refine GX24_78 b8 dX24_demerits_10 rfl ?_
  refine w_iadd dX24_demerits_13 ?_
  refine w_istore_n dX24_demerits_14 rfl (by decide) (ls' := [some (.ref this), some (.int p0), some (.int p1), some (.int (x3 + x7)), none, none, none, none, none]) rfl ?_
  refine w_iload_n dX24_demerits_15 rfl rfl ?_
  refine x_absI dX24_demerits_16 q3803 q3804 q478 q3805 (Nat.le_of_ble_eq_true rfl) ?_
  refine w_sipush dX24_demerits_19 (v := 10000) (by decide) ?_
  refine w_icmp_lt 31 dX24_demerits_22 (by decide) (fun c9 => ?_) (fun c9 => ?_)
  · replace hf := (if_pos (show (m_absI (x3 + x7)) < (10000 : Int32) from c9)).symm.trans hf
    refine w_iload_n dX24_demerits_31 rfl rfl ?_
    refine w_i2l dX24_demerits_32 ?_
    refine w_iload_n dX24_demerits_33 rfl rfl ?_
    refine w_i2l dX24_demerits_34 ?_
    refine w_lmul dX24_demerits_35 ?_
    exact (pX24_demerits_b36 hd hf).to ⟨rfl, rfl, rfl, trivial⟩
  · replace hf := (if_neg (show ¬ ((m_absI (x3 + x7)) < (10000 : Int32)) from c9)).symm.trans hf
    refine w_ldc2 dX24_demerits_25 q3806 ?_
    refine w_goto 36 dX24_demerits_28 (by decide) ?_
    exact (pX24_demerits_b36 hd hf).to ⟨rfl, rfl, rfl, trivial⟩
abbrev cX25_isBetter : ByteArray := prog_18_method_4_code
def yX25_isBetter : MethodName := ⟨RX25, "isBetter", "(II)Z"⟩
def YX25_isBetter : eY := (yX25_isBetter, cX25_isBetter, 3, (Option.some FieldType.boolean), [])
theorem mX25_isBetter : e_mv YX25_isBetter RX25 2 := ⟨q3809, q3810, q3811, by decide, by decide +kernel, (e_sig (by decide +kernel))⟩
theorem dX25_isBetter_0 : decode cX25_isBetter 0 = .ok (.aload_n 0, 1) := dc_42 (by decide +kernel)
theorem dX25_isBetter_1 : decode cX25_isBetter 1 = .ok (.getfield 9, 3) := dc_180 (a := 0) (b := 9) (n := 9) (by decide +kernel)
theorem dX25_isBetter_4 : decode cX25_isBetter 4 = .ok (.iload_n 1, 1) := dc_27 (by decide +kernel)
theorem dX25_isBetter_5 : decode cX25_isBetter 5 = .ok (.iaload, 1) := dc_46 (by decide +kernel)
theorem dX25_isBetter_6 : decode cX25_isBetter 6 = .ok (.aload_n 0, 1) := dc_42 (by decide +kernel)
theorem dX25_isBetter_7 : decode cX25_isBetter 7 = .ok (.getfield 9, 3) := dc_180 (a := 0) (b := 9) (n := 9) (by decide +kernel)
theorem dX25_isBetter_10 : decode cX25_isBetter 10 = .ok (.iload_n 2, 1) := dc_28 (by decide +kernel)
theorem dX25_isBetter_11 : decode cX25_isBetter 11 = .ok (.iaload, 1) := dc_46 (by decide +kernel)
theorem dX25_isBetter_12 : decode cX25_isBetter 12 = .ok (.if_icmp .eq 26, 3) := dc_159 (a := 0) (b := 26) (v := 26) (by decide +kernel)
theorem dX25_isBetter_15 : decode cX25_isBetter 15 = .ok (.aload_n 0, 1) := dc_42 (by decide +kernel)
theorem dX25_isBetter_16 : decode cX25_isBetter 16 = .ok (.getfield 9, 3) := dc_180 (a := 0) (b := 9) (n := 9) (by decide +kernel)
theorem dX25_isBetter_19 : decode cX25_isBetter 19 = .ok (.iload_n 1, 1) := dc_27 (by decide +kernel)
theorem dX25_isBetter_20 : decode cX25_isBetter 20 = .ok (.iaload, 1) := dc_46 (by decide +kernel)
theorem dX25_isBetter_21 : decode cX25_isBetter 21 = .ok (.aload_n 0, 1) := dc_42 (by decide +kernel)
theorem dX25_isBetter_22 : decode cX25_isBetter 22 = .ok (.getfield 9, 3) := dc_180 (a := 0) (b := 9) (n := 9) (by decide +kernel)
theorem dX25_isBetter_25 : decode cX25_isBetter 25 = .ok (.iload_n 2, 1) := dc_28 (by decide +kernel)
theorem dX25_isBetter_26 : decode cX25_isBetter 26 = .ok (.iaload, 1) := dc_46 (by decide +kernel)
theorem dX25_isBetter_27 : decode cX25_isBetter 27 = .ok (.if_icmp .ge 7, 3) := dc_162 (a := 0) (b := 7) (v := 7) (by decide +kernel)
theorem dX25_isBetter_30 : decode cX25_isBetter 30 = .ok (.iconst 1, 1) := dc_4 (by decide +kernel)
theorem dX25_isBetter_31 : decode cX25_isBetter 31 = .ok (.goto 27, 3) := dc_167 (a := 0) (b := 27) (v := 27) (by decide +kernel)
theorem dX25_isBetter_34 : decode cX25_isBetter 34 = .ok (.iconst 0, 1) := dc_3 (by decide +kernel)
theorem dX25_isBetter_35 : decode cX25_isBetter 35 = .ok (.goto 23, 3) := dc_167 (a := 0) (b := 23) (v := 23) (by decide +kernel)
theorem dX25_isBetter_38 : decode cX25_isBetter 38 = .ok (.aload_n 0, 1) := dc_42 (by decide +kernel)
theorem dX25_isBetter_39 : decode cX25_isBetter 39 = .ok (.getfield 18, 3) := dc_180 (a := 0) (b := 18) (n := 18) (by decide +kernel)
theorem dX25_isBetter_42 : decode cX25_isBetter 42 = .ok (.iload_n 1, 1) := dc_27 (by decide +kernel)
theorem dX25_isBetter_43 : decode cX25_isBetter 43 = .ok (.baload, 1) := dc_51 (by decide +kernel)
theorem dX25_isBetter_44 : decode cX25_isBetter 44 = .ok (.aload_n 0, 1) := dc_42 (by decide +kernel)
theorem dX25_isBetter_45 : decode cX25_isBetter 45 = .ok (.getfield 18, 3) := dc_180 (a := 0) (b := 18) (n := 18) (by decide +kernel)
theorem dX25_isBetter_48 : decode cX25_isBetter 48 = .ok (.iload_n 2, 1) := dc_28 (by decide +kernel)
theorem dX25_isBetter_49 : decode cX25_isBetter 49 = .ok (.baload, 1) := dc_51 (by decide +kernel)
theorem dX25_isBetter_50 : decode cX25_isBetter 50 = .ok (.if_icmp .le 7, 3) := dc_164 (a := 0) (b := 7) (v := 7) (by decide +kernel)
theorem dX25_isBetter_53 : decode cX25_isBetter 53 = .ok (.iconst 1, 1) := dc_4 (by decide +kernel)
theorem dX25_isBetter_54 : decode cX25_isBetter 54 = .ok (.goto 4, 3) := dc_167 (a := 0) (b := 4) (v := 4) (by decide +kernel)
theorem dX25_isBetter_57 : decode cX25_isBetter 57 = .ok (.iconst 0, 1) := dc_3 (by decide +kernel)
theorem dX25_isBetter_58 : decode cX25_isBetter 58 = .ok (.ireturn, 1) := dc_172 (by decide +kernel)
def fX25_isBetter_b58 (s0 : Int32) (h : eH) : Option (Int32 × eH) :=
  z_r s0 (s0, h)
theorem pX25_isBetter_b58 {w : eW} {d : Nat} (hd : 0 ≤ d) {s0 : Int32} {h : eH} {q} (hf : fX25_isBetter_b58 s0 h = some q) : wp w d YX25_isBetter 58 [none, none, none] [.int s0] h (e_is (e_rn c_I q)) := by
  unfold fX25_isBetter_b58 at hf
  obtain ⟨b1, rfl⟩ := z_r_some hf
  exact w_iret dX25_isBetter_58 rfl b1 rfl
def fX25_isBetter (this : Nat) (p0 : Int32) (p1 : Int32) (h : eH) : Option (Int32 × eH) :=
  (g_A 24 h this 0).bind fun a1 =>
  (r_I 100 h a1 p0).bind fun x3 =>
  (g_A 24 h this 0).bind fun a5 =>
  (r_I 100 h a5 p1).bind fun x7 =>
  if x3 = x7 then
    (g_A 24 h this 2).bind fun a10 =>
    (r_I 102 h a10 p0).bind fun x12 =>
    (g_A 24 h this 2).bind fun a14 =>
    (r_I 102 h a14 p1).bind fun x16 =>
    if x12 ≤ x16 then
      fX25_isBetter_b58 (0 : Int32) h
    else
      fX25_isBetter_b58 (1 : Int32) h
  else
    (g_A 24 h this 0).bind fun a19 =>
    (r_I 100 h a19 p0).bind fun x21 =>
    (g_A 24 h this 0).bind fun a23 =>
    (r_I 100 h a23 p1).bind fun x25 =>
    if x25 ≤ x21 then
      fX25_isBetter_b58 (0 : Int32) h
    else
      fX25_isBetter_b58 (1 : Int32) h
theorem pX25_isBetter {w : eW} {d : Nat} (hd : 0 ≤ d) {this : Nat} {p0 : Int32} {p1 : Int32} {h : eH} {q} (hf : fX25_isBetter this p0 p1 h = some q) : wm w d YX25_isBetter [.ref this, .int p0, .int p1] h (e_is (e_rn c_I q)) := by
  show wp w d YX25_isBetter 0 [some (.ref this), some (.int p0), some (.int p1)] [] h _
  unfold fX25_isBetter at hf
  refine w_aload_n dX25_isBetter_0 rfl rfl ?_
  obtain ⟨a1, b2, hf⟩ := Option.bind_eq_some_iff.mp hf
  refine GX25_9 b2 dX25_isBetter_1 rfl ?_
  refine w_iload_n dX25_isBetter_4 rfl rfl ?_
  obtain ⟨x3, b4, hf⟩ := Option.bind_eq_some_iff.mp hf
  refine x_rI b4 dX25_isBetter_5 ?_
  refine w_aload_n dX25_isBetter_6 rfl rfl ?_
  obtain ⟨a5, b6, hf⟩ := Option.bind_eq_some_iff.mp hf
  refine GX25_9 b6 dX25_isBetter_7 rfl ?_
  refine w_iload_n dX25_isBetter_10 rfl rfl ?_
  obtain ⟨x7, b8, hf⟩ := Option.bind_eq_some_iff.mp hf
  refine x_rI b8 dX25_isBetter_11 ?_
  refine w_icmp_eq 38 dX25_isBetter_12 (by decide) (fun c9 => ?_) (fun c9 => ?_)
  · replace hf := (if_pos (show x3 = x7 from c9)).symm.trans hf
    refine w_aload_n dX25_isBetter_38 rfl rfl ?_
    obtain ⟨a10, b11, hf⟩ := Option.bind_eq_some_iff.mp hf
    refine GX25_18 b11 dX25_isBetter_39 rfl ?_
    refine w_iload_n dX25_isBetter_42 rfl rfl ?_
    obtain ⟨x12, b13, hf⟩ := Option.bind_eq_some_iff.mp hf
    refine x_rB b13 dX25_isBetter_43 ?_
    refine w_aload_n dX25_isBetter_44 rfl rfl ?_
    obtain ⟨a14, b15, hf⟩ := Option.bind_eq_some_iff.mp hf
    refine GX25_18 b15 dX25_isBetter_45 rfl ?_
    refine w_iload_n dX25_isBetter_48 rfl rfl ?_
    obtain ⟨x16, b17, hf⟩ := Option.bind_eq_some_iff.mp hf
    refine x_rB b17 dX25_isBetter_49 ?_
    refine w_icmp_le 57 dX25_isBetter_50 (by decide) (fun c18 => ?_) (fun c18 => ?_)
    · replace hf := (if_pos (show x12 ≤ x16 from c18)).symm.trans hf
      refine w_iconst dX25_isBetter_57 (v := 0) (by decide) ?_
      exact (pX25_isBetter_b58 hd hf).to trivial
    · replace hf := (if_neg (show ¬ (x12 ≤ x16) from c18)).symm.trans hf
      refine w_iconst dX25_isBetter_53 (v := 1) (by decide) ?_
      refine w_goto 58 dX25_isBetter_54 (by decide) ?_
      exact (pX25_isBetter_b58 hd hf).to trivial
  · replace hf := (if_neg (show ¬ (x3 = x7) from c9)).symm.trans hf
    refine w_aload_n dX25_isBetter_15 rfl rfl ?_
    obtain ⟨a19, b20, hf⟩ := Option.bind_eq_some_iff.mp hf
    refine GX25_9 b20 dX25_isBetter_16 rfl ?_
    refine w_iload_n dX25_isBetter_19 rfl rfl ?_
    obtain ⟨x21, b22, hf⟩ := Option.bind_eq_some_iff.mp hf
    refine x_rI b22 dX25_isBetter_20 ?_
    refine w_aload_n dX25_isBetter_21 rfl rfl ?_
    obtain ⟨a23, b24, hf⟩ := Option.bind_eq_some_iff.mp hf
    refine GX25_9 b24 dX25_isBetter_22 rfl ?_
    refine w_iload_n dX25_isBetter_25 rfl rfl ?_
    obtain ⟨x25, b26, hf⟩ := Option.bind_eq_some_iff.mp hf
    refine x_rI b26 dX25_isBetter_26 ?_
    refine w_icmp_ge 34 dX25_isBetter_27 (by decide) (fun c27 => ?_) (fun c27 => ?_)
    · replace hf := (if_pos (show x25 ≤ x21 from c27)).symm.trans hf
      refine w_iconst dX25_isBetter_34 (v := 0) (by decide) ?_
      refine w_goto 58 dX25_isBetter_35 (by decide) ?_
      exact (pX25_isBetter_b58 hd hf).to trivial
    · replace hf := (if_neg (show ¬ (x25 ≤ x21) from c27)).symm.trans hf
      refine w_iconst dX25_isBetter_30 (v := 1) (by decide) ?_
      refine w_goto 58 dX25_isBetter_31 (by decide) ?_
      exact (pX25_isBetter_b58 hd hf).to trivial
abbrev cX24_offer : ByteArray := prog_24_method_6_code
def yX24_offer : MethodName := ⟨RX24, "offer", "(II)V"⟩
def YX24_offer : eY := (yX24_offer, cX24_offer, 7, none, [])
theorem mX24_offer : e_mv YX24_offer RX24 2 := ⟨q3797, qs172, q3798, by decide, by decide +kernel, (e_sig (by decide +kernel))⟩
theorem dX24_offer_0 : decode cX24_offer 0 = .ok (.iconst 4, 1) := dc_7 (by decide +kernel)
theorem dX24_offer_1 : decode cX24_offer 1 = .ok (.aload_n 0, 1) := dc_42 (by decide +kernel)
theorem dX24_offer_2 : decode cX24_offer 2 = .ok (.getfield 12, 3) := dc_180 (a := 0) (b := 12) (n := 12) (by decide +kernel)
theorem dX24_offer_5 : decode cX24_offer 5 = .ok (.getfield 99, 3) := dc_180 (a := 0) (b := 99) (n := 99) (by decide +kernel)
theorem dX24_offer_8 : decode cX24_offer 8 = .ok (.iload_n 1, 1) := dc_27 (by decide +kernel)
theorem dX24_offer_9 : decode cX24_offer 9 = .ok (.iaload, 1) := dc_46 (by decide +kernel)
theorem dX24_offer_10 : decode cX24_offer 10 = .ok (.iconst 1, 1) := dc_4 (by decide +kernel)
theorem dX24_offer_11 : decode cX24_offer 11 = .ok (.iadd, 1) := dc_96 (by decide +kernel)
theorem dX24_offer_12 : decode cX24_offer 12 = .ok (.imul, 1) := dc_104 (by decide +kernel)
theorem dX24_offer_13 : decode cX24_offer 13 = .ok (.aload_n 0, 1) := dc_42 (by decide +kernel)
theorem dX24_offer_14 : decode cX24_offer 14 = .ok (.getfield 21, 3) := dc_180 (a := 0) (b := 21) (n := 21) (by decide +kernel)
theorem dX24_offer_17 : decode cX24_offer 17 = .ok (.getfield 96, 3) := dc_180 (a := 0) (b := 96) (n := 96) (by decide +kernel)
theorem dX24_offer_20 : decode cX24_offer 20 = .ok (.iadd, 1) := dc_96 (by decide +kernel)
theorem dX24_offer_21 : decode cX24_offer 21 = .ok (.istore_n 3, 1) := dc_62 (by decide +kernel)
theorem dX24_offer_22 : decode cX24_offer 22 = .ok (.aload_n 0, 1) := dc_42 (by decide +kernel)
theorem dX24_offer_23 : decode cX24_offer 23 = .ok (.getfield 12, 3) := dc_180 (a := 0) (b := 12) (n := 12) (by decide +kernel)
theorem dX24_offer_26 : decode cX24_offer 26 = .ok (.getfield 102, 3) := dc_180 (a := 0) (b := 102) (n := 102) (by decide +kernel)
theorem dX24_offer_29 : decode cX24_offer 29 = .ok (.iload_n 1, 1) := dc_27 (by decide +kernel)
theorem dX24_offer_30 : decode cX24_offer 30 = .ok (.laload, 1) := dc_47 (by decide +kernel)
theorem dX24_offer_31 : decode cX24_offer 31 = .ok (.aload_n 0, 1) := dc_42 (by decide +kernel)
theorem dX24_offer_32 : decode cX24_offer 32 = .ok (.iload_n 1, 1) := dc_27 (by decide +kernel)
theorem dX24_offer_33 : decode cX24_offer 33 = .ok (.iload_n 2, 1) := dc_28 (by decide +kernel)
theorem dX24_offer_34 : decode cX24_offer 34 = .ok (.invokevirtual 103, 3) := dc_182 (a := 0) (b := 103) (n := 103) (by decide +kernel)
theorem dX24_offer_37 : decode cX24_offer 37 = .ok (.ladd, 1) := dc_97 (by decide +kernel)
theorem dX24_offer_38 : decode cX24_offer 38 = .ok (.lstore 4, 2) := dc_55 (a := 4) (by decide +kernel)
theorem dX24_offer_40 : decode cX24_offer 40 = .ok (.aload_n 0, 1) := dc_42 (by decide +kernel)
theorem dX24_offer_41 : decode cX24_offer 41 = .ok (.getfield 25, 3) := dc_180 (a := 0) (b := 25) (n := 25) (by decide +kernel)
theorem dX24_offer_44 : decode cX24_offer 44 = .ok (.iload_n 3, 1) := dc_29 (by decide +kernel)
theorem dX24_offer_45 : decode cX24_offer 45 = .ok (.iaload, 1) := dc_46 (by decide +kernel)
theorem dX24_offer_46 : decode cX24_offer 46 = .ok (.iconst (-1), 1) := dc_2 (by decide +kernel)
theorem dX24_offer_47 : decode cX24_offer 47 = .ok (.if_icmp .eq 44, 3) := dc_159 (a := 0) (b := 44) (v := 44) (by decide +kernel)
theorem dX24_offer_50 : decode cX24_offer 50 = .ok (.lload 4, 2) := dc_22 (a := 4) (by decide +kernel)
theorem dX24_offer_52 : decode cX24_offer 52 = .ok (.aload_n 0, 1) := dc_42 (by decide +kernel)
theorem dX24_offer_53 : decode cX24_offer 53 = .ok (.getfield 29, 3) := dc_180 (a := 0) (b := 29) (n := 29) (by decide +kernel)
theorem dX24_offer_56 : decode cX24_offer 56 = .ok (.iload_n 3, 1) := dc_29 (by decide +kernel)
theorem dX24_offer_57 : decode cX24_offer 57 = .ok (.laload, 1) := dc_47 (by decide +kernel)
theorem dX24_offer_58 : decode cX24_offer 58 = .ok (.lcmp, 1) := dc_148 (by decide +kernel)
theorem dX24_offer_59 : decode cX24_offer 59 = .ok (.ifCond .lt 32, 3) := dc_155 (a := 0) (b := 32) (v := 32) (by decide +kernel)
theorem dX24_offer_62 : decode cX24_offer 62 = .ok (.lload 4, 2) := dc_22 (a := 4) (by decide +kernel)
theorem dX24_offer_64 : decode cX24_offer 64 = .ok (.aload_n 0, 1) := dc_42 (by decide +kernel)
theorem dX24_offer_65 : decode cX24_offer 65 = .ok (.getfield 29, 3) := dc_180 (a := 0) (b := 29) (n := 29) (by decide +kernel)
theorem dX24_offer_68 : decode cX24_offer 68 = .ok (.iload_n 3, 1) := dc_29 (by decide +kernel)
theorem dX24_offer_69 : decode cX24_offer 69 = .ok (.laload, 1) := dc_47 (by decide +kernel)
theorem dX24_offer_70 : decode cX24_offer 70 = .ok (.lcmp, 1) := dc_148 (by decide +kernel)
theorem dX24_offer_71 : decode cX24_offer 71 = .ok (.ifCond .ne 24, 3) := dc_154 (a := 0) (b := 24) (v := 24) (by decide +kernel)
theorem dX24_offer_74 : decode cX24_offer 74 = .ok (.aload_n 0, 1) := dc_42 (by decide +kernel)
theorem dX24_offer_75 : decode cX24_offer 75 = .ok (.getfield 12, 3) := dc_180 (a := 0) (b := 12) (n := 12) (by decide +kernel)
theorem dX24_offer_78 : decode cX24_offer 78 = .ok (.iload_n 1, 1) := dc_27 (by decide +kernel)
theorem dX24_offer_79 : decode cX24_offer 79 = .ok (.aload_n 0, 1) := dc_42 (by decide +kernel)
theorem dX24_offer_80 : decode cX24_offer 80 = .ok (.getfield 25, 3) := dc_180 (a := 0) (b := 25) (n := 25) (by decide +kernel)
theorem dX24_offer_83 : decode cX24_offer 83 = .ok (.iload_n 3, 1) := dc_29 (by decide +kernel)
theorem dX24_offer_84 : decode cX24_offer 84 = .ok (.iaload, 1) := dc_46 (by decide +kernel)
theorem dX24_offer_85 : decode cX24_offer 85 = .ok (.invokevirtual 107, 3) := dc_182 (a := 0) (b := 107) (n := 107) (by decide +kernel)
theorem dX24_offer_88 : decode cX24_offer 88 = .ok (.ifCond .eq 7, 3) := dc_153 (a := 0) (b := 7) (v := 7) (by decide +kernel)
theorem dX24_offer_91 : decode cX24_offer 91 = .ok (.iconst 1, 1) := dc_4 (by decide +kernel)
theorem dX24_offer_92 : decode cX24_offer 92 = .ok (.goto 4, 3) := dc_167 (a := 0) (b := 4) (v := 4) (by decide +kernel)
theorem dX24_offer_95 : decode cX24_offer 95 = .ok (.iconst 0, 1) := dc_3 (by decide +kernel)
theorem dX24_offer_96 : decode cX24_offer 96 = .ok (.istore 6, 2) := dc_54 (a := 6) (by decide +kernel)
theorem dX24_offer_98 : decode cX24_offer 98 = .ok (.iload 6, 2) := dc_21 (a := 6) (by decide +kernel)
theorem dX24_offer_100 : decode cX24_offer 100 = .ok (.ifCond .eq 18, 3) := dc_153 (a := 0) (b := 18) (v := 18) (by decide +kernel)
theorem dX24_offer_103 : decode cX24_offer 103 = .ok (.aload_n 0, 1) := dc_42 (by decide +kernel)
theorem dX24_offer_104 : decode cX24_offer 104 = .ok (.getfield 25, 3) := dc_180 (a := 0) (b := 25) (n := 25) (by decide +kernel)
theorem dX24_offer_107 : decode cX24_offer 107 = .ok (.iload_n 3, 1) := dc_29 (by decide +kernel)
theorem dX24_offer_108 : decode cX24_offer 108 = .ok (.iload_n 1, 1) := dc_27 (by decide +kernel)
theorem dX24_offer_109 : decode cX24_offer 109 = .ok (.iastore, 1) := dc_79 (by decide +kernel)
theorem dX24_offer_110 : decode cX24_offer 110 = .ok (.aload_n 0, 1) := dc_42 (by decide +kernel)
theorem dX24_offer_111 : decode cX24_offer 111 = .ok (.getfield 29, 3) := dc_180 (a := 0) (b := 29) (n := 29) (by decide +kernel)
theorem dX24_offer_114 : decode cX24_offer 114 = .ok (.iload_n 3, 1) := dc_29 (by decide +kernel)
theorem dX24_offer_115 : decode cX24_offer 115 = .ok (.lload 4, 2) := dc_22 (a := 4) (by decide +kernel)
theorem dX24_offer_117 : decode cX24_offer 117 = .ok (.lastore, 1) := dc_80 (by decide +kernel)
theorem dX24_offer_118 : decode cX24_offer 118 = .ok (.aload_n 0, 1) := dc_42 (by decide +kernel)
theorem dX24_offer_119 : decode cX24_offer 119 = .ok (.iconst 1, 1) := dc_4 (by decide +kernel)
theorem dX24_offer_120 : decode cX24_offer 120 = .ok (.putfield 111, 3) := dc_181 (a := 0) (b := 111) (n := 111) (by decide +kernel)
theorem dX24_offer_123 : decode cX24_offer 123 = .ok (.aload_n 0, 1) := dc_42 (by decide +kernel)
theorem dX24_offer_124 : decode cX24_offer 124 = .ok (.aload_n 0, 1) := dc_42 (by decide +kernel)
theorem dX24_offer_125 : decode cX24_offer 125 = .ok (.getfield 114, 3) := dc_180 (a := 0) (b := 114) (n := 114) (by decide +kernel)
theorem dX24_offer_128 : decode cX24_offer 128 = .ok (.aload_n 0, 1) := dc_42 (by decide +kernel)
theorem dX24_offer_129 : decode cX24_offer 129 = .ok (.getfield 12, 3) := dc_180 (a := 0) (b := 12) (n := 12) (by decide +kernel)
theorem dX24_offer_132 : decode cX24_offer 132 = .ok (.getfield 99, 3) := dc_180 (a := 0) (b := 99) (n := 99) (by decide +kernel)
theorem dX24_offer_135 : decode cX24_offer 135 = .ok (.iload_n 1, 1) := dc_27 (by decide +kernel)
theorem dX24_offer_136 : decode cX24_offer 136 = .ok (.iaload, 1) := dc_46 (by decide +kernel)
theorem dX24_offer_137 : decode cX24_offer 137 = .ok (.iconst 1, 1) := dc_4 (by decide +kernel)
theorem dX24_offer_138 : decode cX24_offer 138 = .ok (.iadd, 1) := dc_96 (by decide +kernel)
theorem dX24_offer_139 : decode cX24_offer 139 = .ok (.invokestatic 117, 3) := dc_184 (a := 0) (b := 117) (n := 117) (by decide +kernel)
theorem dX24_offer_142 : decode cX24_offer 142 = .ok (.putfield 114, 3) := dc_181 (a := 0) (b := 114) (n := 114) (by decide +kernel)
theorem dX24_offer_145 : decode cX24_offer 145 = .ok (.aload_n 0, 1) := dc_42 (by decide +kernel)
theorem dX24_offer_146 : decode cX24_offer 146 = .ok (.aload_n 0, 1) := dc_42 (by decide +kernel)
theorem dX24_offer_147 : decode cX24_offer 147 = .ok (.getfield 121, 3) := dc_180 (a := 0) (b := 121) (n := 121) (by decide +kernel)
theorem dX24_offer_150 : decode cX24_offer 150 = .ok (.aload_n 0, 1) := dc_42 (by decide +kernel)
theorem dX24_offer_151 : decode cX24_offer 151 = .ok (.getfield 12, 3) := dc_180 (a := 0) (b := 12) (n := 12) (by decide +kernel)
theorem dX24_offer_154 : decode cX24_offer 154 = .ok (.getfield 99, 3) := dc_180 (a := 0) (b := 99) (n := 99) (by decide +kernel)
theorem dX24_offer_157 : decode cX24_offer 157 = .ok (.iload_n 1, 1) := dc_27 (by decide +kernel)
theorem dX24_offer_158 : decode cX24_offer 158 = .ok (.iaload, 1) := dc_46 (by decide +kernel)
theorem dX24_offer_159 : decode cX24_offer 159 = .ok (.iconst 1, 1) := dc_4 (by decide +kernel)
theorem dX24_offer_160 : decode cX24_offer 160 = .ok (.iadd, 1) := dc_96 (by decide +kernel)
theorem dX24_offer_161 : decode cX24_offer 161 = .ok (.invokestatic 124, 3) := dc_184 (a := 0) (b := 124) (n := 124) (by decide +kernel)
theorem dX24_offer_164 : decode cX24_offer 164 = .ok (.putfield 121, 3) := dc_181 (a := 0) (b := 121) (n := 121) (by decide +kernel)
theorem dX24_offer_167 : decode cX24_offer 167 = .ok (.return_, 1) := dc_177 (by decide +kernel)
theorem GX24_102 {w : eW} {d : Nat} {Y : eY} {pc : Nat} {ls : eL} {st : List Value} {h : eH} {Q : eO → eH → Prop} {a : Nat} {x : Nat} (hf : g_A 24 h a 3 = some x) (hd : decode Y.2.1 pc = .ok (.getfield 102, 3)) (hY : Y.1.cls = RX24) (kk : wp w d Y (pc + 3) ls (.ref x :: st) h Q) : wp w d Y pc ls (.ref a :: st) h Q := x_gAN (ci := 24) (k := 3) hf hd rfl (by decide) (by rw [hY]; exact q1350) kk
theorem GX24_114 {w : eW} {d : Nat} {Y : eY} {pc : Nat} {ls : eL} {st : List Value} {h : eH} {Q : eO → eH → Prop} {a : Nat} {x : Int32} (hf : g_I 23 h a 11 = some x) (hd : decode Y.2.1 pc = .ok (.getfield 114, 3)) (hY : Y.1.cls = RX24) (kk : wp w d Y (pc + 3) ls (.int x :: st) h Q) : wp w d Y pc ls (.ref a :: st) h Q := x_gI (ci := 23) (k := 11) hf hd rfl (by decide) (by rw [hY]; exact q1407) kk
theorem GX24_121 {w : eW} {d : Nat} {Y : eY} {pc : Nat} {ls : eL} {st : List Value} {h : eH} {Q : eO → eH → Prop} {a : Nat} {x : Int32} (hf : g_I 23 h a 12 = some x) (hd : decode Y.2.1 pc = .ok (.getfield 121, 3)) (hY : Y.1.cls = RX24) (kk : wp w d Y (pc + 3) ls (.int x :: st) h Q) : wp w d Y pc ls (.ref a :: st) h Q := x_gI (ci := 23) (k := 12) hf hd rfl (by decide) (by rw [hY]; exact q1408) kk
theorem GX24_29 {w : eW} {d : Nat} {Y : eY} {pc : Nat} {ls : eL} {st : List Value} {h : eH} {Q : eO → eH → Prop} {a : Nat} {x : Nat} (hf : g_A 23 h a 7 = some x) (hd : decode Y.2.1 pc = .ok (.getfield 29, 3)) (hY : Y.1.cls = RX24) (kk : wp w d Y (pc + 3) ls (.ref x :: st) h Q) : wp w d Y pc ls (.ref a :: st) h Q := x_gA (ci := 23) (k := 7) hf hd rfl (by decide) (by rw [hY]; exact q1400) kk
theorem GX24_99 {w : eW} {d : Nat} {Y : eY} {pc : Nat} {ls : eL} {st : List Value} {h : eH} {Q : eO → eH → Prop} {a : Nat} {x : Nat} (hf : g_A 24 h a 1 = some x) (hd : decode Y.2.1 pc = .ok (.getfield 99, 3)) (hY : Y.1.cls = RX24) (kk : wp w d Y (pc + 3) ls (.ref x :: st) h Q) : wp w d Y pc ls (.ref a :: st) h Q := x_gAN (ci := 24) (k := 1) hf hd rfl (by decide) (by rw [hY]; exact q1345) kk
theorem SX24_111 {w : eW} {d : Nat} {Y : eY} {pc : Nat} {ls : eL} {st : List Value} {h : eH} {Q : eO → eH → Prop} {a : Nat} {h' : eH} {x : Int32} (hf : p_Z 23 h a 13 x = some h') (hd : decode Y.2.1 pc = .ok (.putfield 111, 3)) (hY : Y.1.cls = RX24) (kk : wp w d Y (pc + 3) ls st h' Q) : wp w d Y pc ls (.int x :: .ref a :: st) h Q := x_pZ (ci := 23) (k := 13) hf hd rfl (by decide) (by rw [hY]; exact q1409) rfl rfl kk
theorem SX24_114 {w : eW} {d : Nat} {Y : eY} {pc : Nat} {ls : eL} {st : List Value} {h : eH} {Q : eO → eH → Prop} {a : Nat} {h' : eH} {x : Int32} (hf : p_V 23 h a 11 (.int x) = some h') (hd : decode Y.2.1 pc = .ok (.putfield 114, 3)) (hY : Y.1.cls = RX24) (kk : wp w d Y (pc + 3) ls st h' Q) : wp w d Y pc ls (.int x :: .ref a :: st) h Q := x_pI (ci := 23) (k := 11) hf hd rfl (by decide) (by rw [hY]; exact q1407) rfl rfl kk
theorem SX24_121 {w : eW} {d : Nat} {Y : eY} {pc : Nat} {ls : eL} {st : List Value} {h : eH} {Q : eO → eH → Prop} {a : Nat} {h' : eH} {x : Int32} (hf : p_V 23 h a 12 (.int x) = some h') (hd : decode Y.2.1 pc = .ok (.putfield 121, 3)) (hY : Y.1.cls = RX24) (kk : wp w d Y (pc + 3) ls st h' Q) : wp w d Y pc ls (.int x :: .ref a :: st) h Q := x_pI (ci := 23) (k := 12) hf hd rfl (by decide) (by rw [hY]; exact q1408) rfl rfl kk
def fX24_offer_b118 (l0 : Nat) (l1 : Int32) (h : eH) : Option (Unit × eH) :=
  (p_Z 23 h l0 13 (1 : Int32)).bind fun h1 =>
  (g_I 23 h1 l0 11).bind fun x3 =>
  (g_A 23 h1 l0 4).bind fun a5 =>
  (g_A 24 h1 a5 1).bind fun a7 =>
  (r_I 100 h1 a7 l1).bind fun x9 =>
  (p_V 23 h1 l0 11 (.int (m_maxI x3 (x9 + (1 : Int32))))).bind fun h11 =>
  (g_I 23 h11 l0 12).bind fun x13 =>
  (g_A 23 h11 l0 4).bind fun a15 =>
  (g_A 24 h11 a15 1).bind fun a17 =>
  (r_I 100 h11 a17 l1).bind fun x19 =>
  (p_V 23 h11 l0 12 (.int (m_minI x13 (x19 + (1 : Int32))))).bind fun h21 =>
  some ((), h21)
theorem pX24_offer_b118 {w : eW} {d : Nat} (hd : 2 ≤ d + 1) {l0 : Nat} {l1 : Int32} {h : eH} {q} (hf : fX24_offer_b118 l0 l1 h = some q) : wp w (d + 1) YX24_offer 118 [some (.ref l0), some (.int l1), none, none, none, none, none] [] h (e_is (e_rn c_V q)) := by
  unfold fX24_offer_b118 at hf
  refine w_aload_n dX24_offer_118 rfl rfl ?_
  refine w_iconst dX24_offer_119 (v := 1) (by decide) ?_
  obtain ⟨h1, b2, hf⟩ := Option.bind_eq_some_iff.mp hf
  refine SX24_111 b2 dX24_offer_120 rfl ?_
  refine w_aload_n dX24_offer_123 rfl rfl ?_
  refine w_aload_n dX24_offer_124 rfl rfl ?_
  obtain ⟨x3, b4, hf⟩ := Option.bind_eq_some_iff.mp hf
  refine GX24_114 b4 dX24_offer_125 rfl ?_
  refine w_aload_n dX24_offer_128 rfl rfl ?_
  obtain ⟨a5, b6, hf⟩ := Option.bind_eq_some_iff.mp hf
  refine GX24_12 b6 dX24_offer_129 rfl ?_
  obtain ⟨a7, b8, hf⟩ := Option.bind_eq_some_iff.mp hf
  refine GX24_99 b8 dX24_offer_132 rfl ?_
  refine w_iload_n dX24_offer_135 rfl rfl ?_
  obtain ⟨x9, b10, hf⟩ := Option.bind_eq_some_iff.mp hf
  refine x_rI b10 dX24_offer_136 ?_
  refine w_iconst dX24_offer_137 (v := 1) (by decide) ?_
  refine w_iadd dX24_offer_138 ?_
  refine x_maxI dX24_offer_139 q3812 q2912 q478 q2913 (Nat.le_of_ble_eq_true rfl) ?_
  obtain ⟨h11, b12, hf⟩ := Option.bind_eq_some_iff.mp hf
  refine SX24_114 b12 dX24_offer_142 rfl ?_
  refine w_aload_n dX24_offer_145 rfl rfl ?_
  refine w_aload_n dX24_offer_146 rfl rfl ?_
  obtain ⟨x13, b14, hf⟩ := Option.bind_eq_some_iff.mp hf
  refine GX24_121 b14 dX24_offer_147 rfl ?_
  refine w_aload_n dX24_offer_150 rfl rfl ?_
  obtain ⟨a15, b16, hf⟩ := Option.bind_eq_some_iff.mp hf
  refine GX24_12 b16 dX24_offer_151 rfl ?_
  obtain ⟨a17, b18, hf⟩ := Option.bind_eq_some_iff.mp hf
  refine GX24_99 b18 dX24_offer_154 rfl ?_
  refine w_iload_n dX24_offer_157 rfl rfl ?_
  obtain ⟨x19, b20, hf⟩ := Option.bind_eq_some_iff.mp hf
  refine x_rI b20 dX24_offer_158 ?_
  refine w_iconst dX24_offer_159 (v := 1) (by decide) ?_
  refine w_iadd dX24_offer_160 ?_
  refine x_minI dX24_offer_161 q3781 q2930 q478 q2931 (Nat.le_of_ble_eq_true rfl) ?_
  obtain ⟨h21, b22, hf⟩ := Option.bind_eq_some_iff.mp hf
  refine SX24_121 b22 dX24_offer_164 rfl ?_
  cases hf
  exact w_vret dX24_offer_167 rfl rfl
def fX24_offer_b96 (l0 : Nat) (l1 : Int32) (l3 : Int32) (l4 : Int64) (s0 : Int32) (h : eH) : Option (Unit × eH) :=
  if s0 = 0 then
    fX24_offer_b118 l0 l1 h
  else
    (g_A 23 h l0 6).bind fun a2 =>
    (q_V 100 h a2 l3 (.int l1)).bind fun h4 =>
    (g_A 23 h4 l0 7).bind fun a6 =>
    (q_V 101 h4 a6 l3 (.long l4)).bind fun h8 =>
    fX24_offer_b118 l0 l1 h8
theorem pX24_offer_b96 {w : eW} {d : Nat} (hd : 2 ≤ d + 1) {l0 : Nat} {l1 : Int32} {l3 : Int32} {l4 : Int64} {s0 : Int32} {h : eH} {q} (hf : fX24_offer_b96 l0 l1 l3 l4 s0 h = some q) : wp w (d + 1) YX24_offer 96 [some (.ref l0), some (.int l1), none, some (.int l3), some (.long l4), none, none] [.int s0] h (e_is (e_rn c_V q)) := by
  unfold fX24_offer_b96 at hf
  refine w_istore dX24_offer_96 (by decide) (ls' := [some (.ref l0), some (.int l1), none, some (.int l3), some (.long l4), none, some (.int s0)]) rfl ?_
  refine w_iload dX24_offer_98 rfl ?_
  refine w_if_eq 118 dX24_offer_100 (by decide) (fun c1 => ?_) (fun c1 => ?_)
  · replace hf := (if_pos (show s0 = 0 from c1)).symm.trans hf
    exact (pX24_offer_b118 hd hf).to ⟨rfl, rfl, trivial⟩
  · replace hf := (if_neg (show ¬ (s0 = 0) from c1)).symm.trans hf
    refine w_aload_n dX24_offer_103 rfl rfl ?_
    obtain ⟨a2, b3, hf⟩ := Option.bind_eq_some_iff.mp hf
    refine GX24_25 b3 dX24_offer_104 rfl ?_
    refine w_iload_n dX24_offer_107 rfl rfl ?_
    refine w_iload_n dX24_offer_108 rfl rfl ?_
    obtain ⟨h4, b5, hf⟩ := Option.bind_eq_some_iff.mp hf
    refine x_qI b5 dX24_offer_109 ?_
    refine w_aload_n dX24_offer_110 rfl rfl ?_
    obtain ⟨a6, b7, hf⟩ := Option.bind_eq_some_iff.mp hf
    refine GX24_29 b7 dX24_offer_111 rfl ?_
    refine w_iload_n dX24_offer_114 rfl rfl ?_
    refine w_lload dX24_offer_115 rfl ?_
    obtain ⟨h8, b9, hf⟩ := Option.bind_eq_some_iff.mp hf
    refine x_qJ b9 dX24_offer_117 ?_
    exact (pX24_offer_b118 hd hf).to ⟨rfl, rfl, trivial⟩
def fX24_offer_b91 (l0 : Nat) (l1 : Int32) (l3 : Int32) (l4 : Int64) (h : eH) : Option (Unit × eH) :=
  fX24_offer_b96 l0 l1 l3 l4 (1 : Int32) h
theorem pX24_offer_b91 {w : eW} {d : Nat} (hd : 2 ≤ d + 1) {l0 : Nat} {l1 : Int32} {l3 : Int32} {l4 : Int64} {h : eH} {q} (hf : fX24_offer_b91 l0 l1 l3 l4 h = some q) : wp w (d + 1) YX24_offer 91 [some (.ref l0), some (.int l1), none, some (.int l3), some (.long l4), none, none] [] h (e_is (e_rn c_V q)) := by
  unfold fX24_offer_b91 at hf
  refine w_iconst dX24_offer_91 (v := 1) (by decide) ?_
  refine w_goto 96 dX24_offer_92 (by decide) ?_
  exact (pX24_offer_b96 hd hf).to ⟨rfl, rfl, rfl, rfl, trivial⟩
def fX24_offer_b95 (l0 : Nat) (l1 : Int32) (l3 : Int32) (l4 : Int64) (h : eH) : Option (Unit × eH) :=
  fX24_offer_b96 l0 l1 l3 l4 (0 : Int32) h
theorem pX24_offer_b95 {w : eW} {d : Nat} (hd : 2 ≤ d + 1) {l0 : Nat} {l1 : Int32} {l3 : Int32} {l4 : Int64} {h : eH} {q} (hf : fX24_offer_b95 l0 l1 l3 l4 h = some q) : wp w (d + 1) YX24_offer 95 [some (.ref l0), some (.int l1), none, some (.int l3), some (.long l4), none, none] [] h (e_is (e_rn c_V q)) := by
  unfold fX24_offer_b95 at hf
  refine w_iconst dX24_offer_95 (v := 0) (by decide) ?_
  exact (pX24_offer_b96 hd hf).to ⟨rfl, rfl, rfl, rfl, trivial⟩
def fX24_offer (this : Nat) (p0 : Int32) (p1 : Int32) (h : eH) : Option (Unit × eH) :=
  (g_A 23 h this 4).bind fun a1 =>
  (g_A 24 h a1 1).bind fun a3 =>
  (r_I 100 h a3 p0).bind fun x5 =>
  (g_A 23 h this 5).bind fun a7 =>
  (g_I 25 h a7 1).bind fun x9 =>
  (g_A 23 h this 4).bind fun a11 =>
  (g_A 24 h a11 3).bind fun a13 =>
  (r_J h a13 p0).bind fun x15 =>
  (k_ok 23 h this).bind fun _ =>
  (fX24_demerits this p0 p1 h).bind fun q18 =>
  (g_A 23 q18.2 this 6).bind fun a19 =>
  (r_I 100 q18.2 a19 (((4 : Int32) * (x5 + (1 : Int32))) + x9)).bind fun x21 =>
  if x21 = (-1 : Int32) then
    fX24_offer_b91 this p0 (((4 : Int32) * (x5 + (1 : Int32))) + x9) (x15 + q18.1) q18.2
  else
    (g_A 23 q18.2 this 7).bind fun a24 =>
    (r_J q18.2 a24 (((4 : Int32) * (x5 + (1 : Int32))) + x9)).bind fun x26 =>
    if (lg_cmp (x15 + q18.1) x26) < 0 then
      fX24_offer_b91 this p0 (((4 : Int32) * (x5 + (1 : Int32))) + x9) (x15 + q18.1) q18.2
    else
      (g_A 23 q18.2 this 7).bind fun a29 =>
      (r_J q18.2 a29 (((4 : Int32) * (x5 + (1 : Int32))) + x9)).bind fun x31 =>
      if ¬ (lg_cmp (x15 + q18.1) x31) = 0 then
        fX24_offer_b95 this p0 (((4 : Int32) * (x5 + (1 : Int32))) + x9) (x15 + q18.1) q18.2
      else
        (g_A 23 q18.2 this 4).bind fun a34 =>
        (g_A 23 q18.2 this 6).bind fun a36 =>
        (r_I 100 q18.2 a36 (((4 : Int32) * (x5 + (1 : Int32))) + x9)).bind fun x38 =>
        (k_ok 24 q18.2 a34).bind fun _ =>
        (fX25_isBetter a34 p0 x38 q18.2).bind fun q41 =>
        if q41.1 = 0 then
          fX24_offer_b95 this p0 (((4 : Int32) * (x5 + (1 : Int32))) + x9) (x15 + q18.1) q41.2
        else
          fX24_offer_b91 this p0 (((4 : Int32) * (x5 + (1 : Int32))) + x9) (x15 + q18.1) q41.2
theorem pX24_offer {w : eW} {d : Nat} (hd : 2 ≤ d) {this : Nat} {p0 : Int32} {p1 : Int32} {h : eH} {q} (hf : fX24_offer this p0 p1 h = some q) : wm w d YX24_offer [.ref this, .int p0, .int p1] h (e_is (e_rn c_V q)) := by
  obtain ⟨d, rfl⟩ : ∃ e, d = e + 1 := ⟨d - 1, by omega⟩
  show wp w (d + 1) YX24_offer 0 [some (.ref this), some (.int p0), some (.int p1), none, none, none, none] [] h _
  unfold fX24_offer at hf
  refine w_iconst dX24_offer_0 (v := 4) (by decide) ?_
  refine w_aload_n dX24_offer_1 rfl rfl ?_
  obtain ⟨a1, b2, hf⟩ := Option.bind_eq_some_iff.mp hf
  refine GX24_12 b2 dX24_offer_2 rfl ?_
  obtain ⟨a3, b4, hf⟩ := Option.bind_eq_some_iff.mp hf
  refine GX24_99 b4 dX24_offer_5 rfl ?_
  refine w_iload_n dX24_offer_8 rfl rfl ?_
  obtain ⟨x5, b6, hf⟩ := Option.bind_eq_some_iff.mp hf
  refine x_rI b6 dX24_offer_9 ?_
  refine w_iconst dX24_offer_10 (v := 1) (by decide) ?_
  refine w_iadd dX24_offer_11 ?_
  refine w_imul dX24_offer_12 ?_
  refine w_aload_n dX24_offer_13 rfl rfl ?_
  obtain ⟨a7, b8, hf⟩ := Option.bind_eq_some_iff.mp hf
  refine GX24_21 b8 dX24_offer_14 rfl ?_
  obtain ⟨x9, b10, hf⟩ := Option.bind_eq_some_iff.mp hf
  refine GX24_96 b10 dX24_offer_17 rfl ?_
  refine w_iadd dX24_offer_20 ?_
  refine w_istore_n dX24_offer_21 rfl (by decide) (ls' := [some (.ref this), some (.int p0), some (.int p1), some (.int (((4 : Int32) * (x5 + (1 : Int32))) + x9)), none, none, none]) rfl ?_
  refine w_aload_n dX24_offer_22 rfl rfl ?_
  obtain ⟨a11, b12, hf⟩ := Option.bind_eq_some_iff.mp hf
  refine GX24_12 b12 dX24_offer_23 rfl ?_
  obtain ⟨a13, b14, hf⟩ := Option.bind_eq_some_iff.mp hf
  refine GX24_102 b14 dX24_offer_26 rfl ?_
  refine w_iload_n dX24_offer_29 rfl rfl ?_
  obtain ⟨x15, b16, hf⟩ := Option.bind_eq_some_iff.mp hf
  refine x_rJ b16 dX24_offer_30 ?_
  refine w_aload_n dX24_offer_31 rfl rfl ?_
  refine w_iload_n dX24_offer_32 rfl rfl ?_
  refine w_iload_n dX24_offer_33 rfl rfl ?_
  obtain ⟨_, b17, hf⟩ := Option.bind_eq_some_iff.mp hf
  refine x_cnJ hf (e_stV (Yc := YX24_demerits) (ci := 23) (av := [.int p0, .int p1]) (st := [.long x15]) dX24_offer_34 q3799 mX24_demerits rfl (k_ok_some b17).1 (k_ok_some b17).2) mX24_demerits.2.2.1 mX24_demerits.2.2.2.2.1 (Nat.le_of_ble_eq_true rfl) (Nat.le_of_ble_eq_true rfl) (fun q hq => pX24_demerits (by omega) hq) (fun q18 hf => ?_)
  refine w_ladd dX24_offer_37 ?_
  refine w_lstore dX24_offer_38 (by decide) (ls' := [some (.ref this), some (.int p0), some (.int p1), some (.int (((4 : Int32) * (x5 + (1 : Int32))) + x9)), some (.long (x15 + q18.1)), none, none]) rfl ?_
  refine w_aload_n dX24_offer_40 rfl rfl ?_
  obtain ⟨a19, b20, hf⟩ := Option.bind_eq_some_iff.mp hf
  refine GX24_25 b20 dX24_offer_41 rfl ?_
  refine w_iload_n dX24_offer_44 rfl rfl ?_
  obtain ⟨x21, b22, hf⟩ := Option.bind_eq_some_iff.mp hf
  refine x_rI b22 dX24_offer_45 ?_
  refine w_iconst dX24_offer_46 (v := -1) (by decide) ?_
  refine w_icmp_eq 91 dX24_offer_47 (by decide) (fun c23 => ?_) (fun c23 => ?_)
  · replace hf := (if_pos (show x21 = (-1 : Int32) from c23)).symm.trans hf
    exact (pX24_offer_b91 hd hf).to ⟨rfl, rfl, rfl, rfl, trivial⟩
  · replace hf := (if_neg (show ¬ (x21 = (-1 : Int32)) from c23)).symm.trans hf
    refine w_lload dX24_offer_50 rfl ?_
    refine w_aload_n dX24_offer_52 rfl rfl ?_
    obtain ⟨a24, b25, hf⟩ := Option.bind_eq_some_iff.mp hf
    refine GX24_29 b25 dX24_offer_53 rfl ?_
    refine w_iload_n dX24_offer_56 rfl rfl ?_
    obtain ⟨x26, b27, hf⟩ := Option.bind_eq_some_iff.mp hf
    refine x_rJ b27 dX24_offer_57 ?_
    refine w_lcmp dX24_offer_58 ?_
    refine w_if_lt 91 dX24_offer_59 (by decide) (fun c28 => ?_) (fun c28 => ?_)
    · replace hf := (if_pos (show (lg_cmp (x15 + q18.1) x26) < 0 from c28)).symm.trans hf
      exact (pX24_offer_b91 hd hf).to ⟨rfl, rfl, rfl, rfl, trivial⟩
    · replace hf := (if_neg (show ¬ ((lg_cmp (x15 + q18.1) x26) < 0) from c28)).symm.trans hf
      refine w_lload dX24_offer_62 rfl ?_
      refine w_aload_n dX24_offer_64 rfl rfl ?_
      obtain ⟨a29, b30, hf⟩ := Option.bind_eq_some_iff.mp hf
      refine GX24_29 b30 dX24_offer_65 rfl ?_
      refine w_iload_n dX24_offer_68 rfl rfl ?_
      obtain ⟨x31, b32, hf⟩ := Option.bind_eq_some_iff.mp hf
      refine x_rJ b32 dX24_offer_69 ?_
      refine w_lcmp dX24_offer_70 ?_
      refine w_if_ne 95 dX24_offer_71 (by decide) (fun c33 => ?_) (fun c33 => ?_)
      · replace hf := (if_pos (show ¬ (lg_cmp (x15 + q18.1) x31) = 0 from c33)).symm.trans hf
        exact (pX24_offer_b95 hd hf).to ⟨rfl, rfl, rfl, rfl, trivial⟩
      · replace hf := (if_neg (show ¬ (¬ (lg_cmp (x15 + q18.1) x31) = 0) from (fun z => z c33))).symm.trans hf
        refine w_aload_n dX24_offer_74 rfl rfl ?_
        obtain ⟨a34, b35, hf⟩ := Option.bind_eq_some_iff.mp hf
        refine GX24_12 b35 dX24_offer_75 rfl ?_
        refine w_iload_n dX24_offer_78 rfl rfl ?_
        refine w_aload_n dX24_offer_79 rfl rfl ?_
        obtain ⟨a36, b37, hf⟩ := Option.bind_eq_some_iff.mp hf
        refine GX24_25 b37 dX24_offer_80 rfl ?_
        refine w_iload_n dX24_offer_83 rfl rfl ?_
        obtain ⟨x38, b39, hf⟩ := Option.bind_eq_some_iff.mp hf
        refine x_rI b39 dX24_offer_84 ?_
        obtain ⟨_, b40, hf⟩ := Option.bind_eq_some_iff.mp hf
        refine x_cnI hf (e_stV (Yc := YX25_isBetter) (ci := 24) (av := [.int p0, .int x38]) (st := []) dX24_offer_85 q3808 mX25_isBetter rfl (k_ok_some b40).1 (k_ok_some b40).2) mX25_isBetter.2.2.1 mX25_isBetter.2.2.2.2.1 (Nat.le_of_ble_eq_true rfl) (Nat.le_of_ble_eq_true rfl) (fun q hq => pX25_isBetter (by omega) hq) (fun q41 hf => ?_)
        refine w_if_eq 95 dX24_offer_88 (by decide) (fun c42 => ?_) (fun c42 => ?_)
        · replace hf := (if_pos (show q41.1 = 0 from c42)).symm.trans hf
          exact (pX24_offer_b95 hd hf).to ⟨rfl, rfl, rfl, rfl, trivial⟩
        · replace hf := (if_neg (show ¬ (q41.1 = 0) from c42)).symm.trans hf
          exact (pX24_offer_b91 hd hf).to ⟨rfl, rfl, rfl, rfl, trivial⟩
abbrev cX24_isLater : ByteArray := prog_24_method_7_code
def yX24_isLater : MethodName := ⟨RX24, "isLater", "(II)Z"⟩
def YX24_isLater : eY := (yX24_isLater, cX24_isLater, 3, (Option.some FieldType.boolean), [])
theorem mX24_isLater : e_mv YX24_isLater RX24 2 := ⟨q3815, qs174, q3816, by decide, by decide +kernel, (e_sig (by decide +kernel))⟩
theorem dX24_isLater_0 : decode cX24_isLater 0 = .ok (.aload_n 0, 1) := dc_42 (by decide +kernel)
theorem dX24_isLater_1 : decode cX24_isLater 1 = .ok (.getfield 12, 3) := dc_180 (a := 0) (b := 12) (n := 12) (by decide +kernel)
theorem dX24_isLater_4 : decode cX24_isLater 4 = .ok (.getfield 99, 3) := dc_180 (a := 0) (b := 99) (n := 99) (by decide +kernel)
theorem dX24_isLater_7 : decode cX24_isLater 7 = .ok (.iload_n 1, 1) := dc_27 (by decide +kernel)
theorem dX24_isLater_8 : decode cX24_isLater 8 = .ok (.iaload, 1) := dc_46 (by decide +kernel)
theorem dX24_isLater_9 : decode cX24_isLater 9 = .ok (.aload_n 0, 1) := dc_42 (by decide +kernel)
theorem dX24_isLater_10 : decode cX24_isLater 10 = .ok (.getfield 12, 3) := dc_180 (a := 0) (b := 12) (n := 12) (by decide +kernel)
theorem dX24_isLater_13 : decode cX24_isLater 13 = .ok (.getfield 99, 3) := dc_180 (a := 0) (b := 99) (n := 99) (by decide +kernel)
theorem dX24_isLater_16 : decode cX24_isLater 16 = .ok (.iload_n 2, 1) := dc_28 (by decide +kernel)
theorem dX24_isLater_17 : decode cX24_isLater 17 = .ok (.iaload, 1) := dc_46 (by decide +kernel)
theorem dX24_isLater_18 : decode cX24_isLater 18 = .ok (.if_icmp .eq 32, 3) := dc_159 (a := 0) (b := 32) (v := 32) (by decide +kernel)
theorem dX24_isLater_21 : decode cX24_isLater 21 = .ok (.aload_n 0, 1) := dc_42 (by decide +kernel)
theorem dX24_isLater_22 : decode cX24_isLater 22 = .ok (.getfield 12, 3) := dc_180 (a := 0) (b := 12) (n := 12) (by decide +kernel)
theorem dX24_isLater_25 : decode cX24_isLater 25 = .ok (.getfield 99, 3) := dc_180 (a := 0) (b := 99) (n := 99) (by decide +kernel)
theorem dX24_isLater_28 : decode cX24_isLater 28 = .ok (.iload_n 1, 1) := dc_27 (by decide +kernel)
theorem dX24_isLater_29 : decode cX24_isLater 29 = .ok (.iaload, 1) := dc_46 (by decide +kernel)
theorem dX24_isLater_30 : decode cX24_isLater 30 = .ok (.aload_n 0, 1) := dc_42 (by decide +kernel)
theorem dX24_isLater_31 : decode cX24_isLater 31 = .ok (.getfield 12, 3) := dc_180 (a := 0) (b := 12) (n := 12) (by decide +kernel)
theorem dX24_isLater_34 : decode cX24_isLater 34 = .ok (.getfield 99, 3) := dc_180 (a := 0) (b := 99) (n := 99) (by decide +kernel)
theorem dX24_isLater_37 : decode cX24_isLater 37 = .ok (.iload_n 2, 1) := dc_28 (by decide +kernel)
theorem dX24_isLater_38 : decode cX24_isLater 38 = .ok (.iaload, 1) := dc_46 (by decide +kernel)
theorem dX24_isLater_39 : decode cX24_isLater 39 = .ok (.if_icmp .le 7, 3) := dc_164 (a := 0) (b := 7) (v := 7) (by decide +kernel)
theorem dX24_isLater_42 : decode cX24_isLater 42 = .ok (.iconst 1, 1) := dc_4 (by decide +kernel)
theorem dX24_isLater_43 : decode cX24_isLater 43 = .ok (.goto 16, 3) := dc_167 (a := 0) (b := 16) (v := 16) (by decide +kernel)
theorem dX24_isLater_46 : decode cX24_isLater 46 = .ok (.iconst 0, 1) := dc_3 (by decide +kernel)
theorem dX24_isLater_47 : decode cX24_isLater 47 = .ok (.goto 12, 3) := dc_167 (a := 0) (b := 12) (v := 12) (by decide +kernel)
theorem dX24_isLater_50 : decode cX24_isLater 50 = .ok (.aload_n 0, 1) := dc_42 (by decide +kernel)
theorem dX24_isLater_51 : decode cX24_isLater 51 = .ok (.getfield 12, 3) := dc_180 (a := 0) (b := 12) (n := 12) (by decide +kernel)
theorem dX24_isLater_54 : decode cX24_isLater 54 = .ok (.iload_n 1, 1) := dc_27 (by decide +kernel)
theorem dX24_isLater_55 : decode cX24_isLater 55 = .ok (.iload_n 2, 1) := dc_28 (by decide +kernel)
theorem dX24_isLater_56 : decode cX24_isLater 56 = .ok (.invokevirtual 107, 3) := dc_182 (a := 0) (b := 107) (n := 107) (by decide +kernel)
theorem dX24_isLater_59 : decode cX24_isLater 59 = .ok (.ireturn, 1) := dc_172 (by decide +kernel)
def fX24_isLater_b59 (s0 : Int32) (h : eH) : Option (Int32 × eH) :=
  z_r s0 (s0, h)
theorem pX24_isLater_b59 {w : eW} {d : Nat} (hd : 1 ≤ d + 1) {s0 : Int32} {h : eH} {q} (hf : fX24_isLater_b59 s0 h = some q) : wp w (d + 1) YX24_isLater 59 [none, none, none] [.int s0] h (e_is (e_rn c_I q)) := by
  unfold fX24_isLater_b59 at hf
  obtain ⟨b1, rfl⟩ := z_r_some hf
  exact w_iret dX24_isLater_59 rfl b1 rfl
def fX24_isLater (this : Nat) (p0 : Int32) (p1 : Int32) (h : eH) : Option (Int32 × eH) :=
  (g_A 23 h this 4).bind fun a1 =>
  (g_A 24 h a1 1).bind fun a3 =>
  (r_I 100 h a3 p0).bind fun x5 =>
  (g_A 23 h this 4).bind fun a7 =>
  (g_A 24 h a7 1).bind fun a9 =>
  (r_I 100 h a9 p1).bind fun x11 =>
  if x5 = x11 then
    (g_A 23 h this 4).bind fun a14 =>
    (k_ok 24 h a14).bind fun _ =>
    (fX25_isBetter a14 p0 p1 h).bind fun q17 =>
    fX24_isLater_b59 q17.1 q17.2
  else
    (g_A 23 h this 4).bind fun a18 =>
    (g_A 24 h a18 1).bind fun a20 =>
    (r_I 100 h a20 p0).bind fun x22 =>
    (g_A 23 h this 4).bind fun a24 =>
    (g_A 24 h a24 1).bind fun a26 =>
    (r_I 100 h a26 p1).bind fun x28 =>
    if x22 ≤ x28 then
      fX24_isLater_b59 (0 : Int32) h
    else
      fX24_isLater_b59 (1 : Int32) h
theorem pX24_isLater {w : eW} {d : Nat} (hd : 1 ≤ d) {this : Nat} {p0 : Int32} {p1 : Int32} {h : eH} {q} (hf : fX24_isLater this p0 p1 h = some q) : wm w d YX24_isLater [.ref this, .int p0, .int p1] h (e_is (e_rn c_I q)) := by
  obtain ⟨d, rfl⟩ : ∃ e, d = e + 1 := ⟨d - 1, by omega⟩
  show wp w (d + 1) YX24_isLater 0 [some (.ref this), some (.int p0), some (.int p1)] [] h _
  unfold fX24_isLater at hf
  refine w_aload_n dX24_isLater_0 rfl rfl ?_
  obtain ⟨a1, b2, hf⟩ := Option.bind_eq_some_iff.mp hf
  refine GX24_12 b2 dX24_isLater_1 rfl ?_
  obtain ⟨a3, b4, hf⟩ := Option.bind_eq_some_iff.mp hf
  refine GX24_99 b4 dX24_isLater_4 rfl ?_
  refine w_iload_n dX24_isLater_7 rfl rfl ?_
  obtain ⟨x5, b6, hf⟩ := Option.bind_eq_some_iff.mp hf
  refine x_rI b6 dX24_isLater_8 ?_
  refine w_aload_n dX24_isLater_9 rfl rfl ?_
  obtain ⟨a7, b8, hf⟩ := Option.bind_eq_some_iff.mp hf
  refine GX24_12 b8 dX24_isLater_10 rfl ?_
  obtain ⟨a9, b10, hf⟩ := Option.bind_eq_some_iff.mp hf
  refine GX24_99 b10 dX24_isLater_13 rfl ?_
  refine w_iload_n dX24_isLater_16 rfl rfl ?_
  obtain ⟨x11, b12, hf⟩ := Option.bind_eq_some_iff.mp hf
  refine x_rI b12 dX24_isLater_17 ?_
  refine w_icmp_eq 50 dX24_isLater_18 (by decide) (fun c13 => ?_) (fun c13 => ?_)
  · replace hf := (if_pos (show x5 = x11 from c13)).symm.trans hf
    refine w_aload_n dX24_isLater_50 rfl rfl ?_
    obtain ⟨a14, b15, hf⟩ := Option.bind_eq_some_iff.mp hf
    refine GX24_12 b15 dX24_isLater_51 rfl ?_
    refine w_iload_n dX24_isLater_54 rfl rfl ?_
    refine w_iload_n dX24_isLater_55 rfl rfl ?_
    obtain ⟨_, b16, hf⟩ := Option.bind_eq_some_iff.mp hf
    refine x_cnI hf (e_stV (Yc := YX25_isBetter) (ci := 24) (av := [.int p0, .int p1]) (st := []) dX24_isLater_56 q3808 mX25_isBetter rfl (k_ok_some b16).1 (k_ok_some b16).2) mX25_isBetter.2.2.1 mX25_isBetter.2.2.2.2.1 (Nat.le_of_ble_eq_true rfl) (Nat.le_of_ble_eq_true rfl) (fun q hq => pX25_isBetter (by omega) hq) (fun q17 hf => ?_)
    exact (pX24_isLater_b59 hd hf).to trivial
  · replace hf := (if_neg (show ¬ (x5 = x11) from c13)).symm.trans hf
    refine w_aload_n dX24_isLater_21 rfl rfl ?_
    obtain ⟨a18, b19, hf⟩ := Option.bind_eq_some_iff.mp hf
    refine GX24_12 b19 dX24_isLater_22 rfl ?_
    obtain ⟨a20, b21, hf⟩ := Option.bind_eq_some_iff.mp hf
    refine GX24_99 b21 dX24_isLater_25 rfl ?_
    refine w_iload_n dX24_isLater_28 rfl rfl ?_
    obtain ⟨x22, b23, hf⟩ := Option.bind_eq_some_iff.mp hf
    refine x_rI b23 dX24_isLater_29 ?_
    refine w_aload_n dX24_isLater_30 rfl rfl ?_
    obtain ⟨a24, b25, hf⟩ := Option.bind_eq_some_iff.mp hf
    refine GX24_12 b25 dX24_isLater_31 rfl ?_
    obtain ⟨a26, b27, hf⟩ := Option.bind_eq_some_iff.mp hf
    refine GX24_99 b27 dX24_isLater_34 rfl ?_
    refine w_iload_n dX24_isLater_37 rfl rfl ?_
    obtain ⟨x28, b29, hf⟩ := Option.bind_eq_some_iff.mp hf
    refine x_rI b29 dX24_isLater_38 ?_
    refine w_icmp_le 46 dX24_isLater_39 (by decide) (fun c30 => ?_) (fun c30 => ?_)
    · replace hf := (if_pos (show x22 ≤ x28 from c30)).symm.trans hf
      refine w_iconst dX24_isLater_46 (v := 0) (by decide) ?_
      refine w_goto 59 dX24_isLater_47 (by decide) ?_
      exact (pX24_isLater_b59 hd hf).to trivial
    · replace hf := (if_neg (show ¬ (x22 ≤ x28) from c30)).symm.trans hf
      refine w_iconst dX24_isLater_42 (v := 1) (by decide) ?_
      refine w_goto 59 dX24_isLater_43 (by decide) ?_
      exact (pX24_isLater_b59 hd hf).to trivial
abbrev cX24_goThrough : ByteArray := prog_24_method_8_code
def yX24_goThrough : MethodName := ⟨RX24, "goThrough", "(I)I"⟩
def YX24_goThrough : eY := (yX24_goThrough, cX24_goThrough, 7, (Option.some FieldType.int), [])
theorem mX24_goThrough : e_mv YX24_goThrough RX24 1 := ⟨q3770, qs170, q3771, by decide, by decide +kernel, (e_sig (by decide +kernel))⟩
theorem dX24_goThrough_0 : decode cX24_goThrough 0 = .ok (.aload_n 0, 1) := dc_42 (by decide +kernel)
theorem dX24_goThrough_1 : decode cX24_goThrough 1 = .ok (.iload_n 1, 1) := dc_27 (by decide +kernel)
theorem dX24_goThrough_2 : decode cX24_goThrough 2 = .ok (.invokevirtual 63, 3) := dc_182 (a := 0) (b := 63) (n := 63) (by decide +kernel)
theorem dX24_goThrough_5 : decode cX24_goThrough 5 = .ok (.sipush (-10000), 3) := dc_17 (a := 216) (b := 240) (v := -10000) (by decide +kernel)
theorem dX24_goThrough_8 : decode cX24_goThrough 8 = .ok (.if_icmp .ne 7, 3) := dc_160 (a := 0) (b := 7) (v := 7) (by decide +kernel)
theorem dX24_goThrough_11 : decode cX24_goThrough 11 = .ok (.iconst 1, 1) := dc_4 (by decide +kernel)
theorem dX24_goThrough_12 : decode cX24_goThrough 12 = .ok (.goto 4, 3) := dc_167 (a := 0) (b := 4) (v := 4) (by decide +kernel)
theorem dX24_goThrough_15 : decode cX24_goThrough 15 = .ok (.iconst 0, 1) := dc_3 (by decide +kernel)
theorem dX24_goThrough_16 : decode cX24_goThrough 16 = .ok (.istore_n 2, 1) := dc_61 (by decide +kernel)
theorem dX24_goThrough_17 : decode cX24_goThrough 17 = .ok (.aload_n 0, 1) := dc_42 (by decide +kernel)
theorem dX24_goThrough_18 : decode cX24_goThrough 18 = .ok (.iconst 0, 1) := dc_3 (by decide +kernel)
theorem dX24_goThrough_19 : decode cX24_goThrough 19 = .ok (.putfield 111, 3) := dc_181 (a := 0) (b := 111) (n := 111) (by decide +kernel)
theorem dX24_goThrough_22 : decode cX24_goThrough 22 = .ok (.aload_n 0, 1) := dc_42 (by decide +kernel)
theorem dX24_goThrough_23 : decode cX24_goThrough 23 = .ok (.iconst 0, 1) := dc_3 (by decide +kernel)
theorem dX24_goThrough_24 : decode cX24_goThrough 24 = .ok (.putfield 114, 3) := dc_181 (a := 0) (b := 114) (n := 114) (by decide +kernel)
theorem dX24_goThrough_27 : decode cX24_goThrough 27 = .ok (.aload_n 0, 1) := dc_42 (by decide +kernel)
theorem dX24_goThrough_28 : decode cX24_goThrough 28 = .ok (.sipush 2003, 3) := dc_17 (a := 7) (b := 211) (v := 2003) (by decide +kernel)
theorem dX24_goThrough_31 : decode cX24_goThrough 31 = .ok (.putfield 121, 3) := dc_181 (a := 0) (b := 121) (n := 121) (by decide +kernel)
theorem dX24_goThrough_34 : decode cX24_goThrough 34 = .ok (.iconst (-1), 1) := dc_2 (by decide +kernel)
theorem dX24_goThrough_35 : decode cX24_goThrough 35 = .ok (.istore_n 3, 1) := dc_62 (by decide +kernel)
theorem dX24_goThrough_36 : decode cX24_goThrough 36 = .ok (.iconst (-1), 1) := dc_2 (by decide +kernel)
theorem dX24_goThrough_37 : decode cX24_goThrough 37 = .ok (.istore 4, 2) := dc_54 (a := 4) (by decide +kernel)
theorem dX24_goThrough_39 : decode cX24_goThrough 39 = .ok (.iconst 0, 1) := dc_3 (by decide +kernel)
theorem dX24_goThrough_40 : decode cX24_goThrough 40 = .ok (.istore 5, 2) := dc_54 (a := 5) (by decide +kernel)
theorem dX24_goThrough_42 : decode cX24_goThrough 42 = .ok (.aload_n 0, 1) := dc_42 (by decide +kernel)
theorem dX24_goThrough_43 : decode cX24_goThrough 43 = .ok (.getfield 12, 3) := dc_180 (a := 0) (b := 12) (n := 12) (by decide +kernel)
theorem dX24_goThrough_46 : decode cX24_goThrough 46 = .ok (.getfield 127, 3) := dc_180 (a := 0) (b := 127) (n := 127) (by decide +kernel)
theorem dX24_goThrough_49 : decode cX24_goThrough 49 = .ok (.istore 6, 2) := dc_54 (a := 6) (by decide +kernel)
theorem dX24_goThrough_51 : decode cX24_goThrough 51 = .ok (.iload 6, 2) := dc_21 (a := 6) (by decide +kernel)
theorem dX24_goThrough_53 : decode cX24_goThrough 53 = .ok (.iconst (-1), 1) := dc_2 (by decide +kernel)
theorem dX24_goThrough_54 : decode cX24_goThrough 54 = .ok (.if_icmp .eq 206, 3) := dc_159 (a := 0) (b := 206) (v := 206) (by decide +kernel)
theorem dX24_goThrough_57 : decode cX24_goThrough 57 = .ok (.aload_n 0, 1) := dc_42 (by decide +kernel)
theorem dX24_goThrough_58 : decode cX24_goThrough 58 = .ok (.dup, 1) := dc_89 (by decide +kernel)
theorem dX24_goThrough_59 : decode cX24_goThrough 59 = .ok (.getfield 130, 3) := dc_180 (a := 0) (b := 130) (n := 130) (by decide +kernel)
theorem dX24_goThrough_62 : decode cX24_goThrough 62 = .ok (.iconst 1, 1) := dc_4 (by decide +kernel)
theorem dX24_goThrough_63 : decode cX24_goThrough 63 = .ok (.iadd, 1) := dc_96 (by decide +kernel)
theorem dX24_goThrough_64 : decode cX24_goThrough 64 = .ok (.putfield 130, 3) := dc_181 (a := 0) (b := 130) (n := 130) (by decide +kernel)
theorem dX24_goThrough_67 : decode cX24_goThrough 67 = .ok (.aload_n 0, 1) := dc_42 (by decide +kernel)
theorem dX24_goThrough_68 : decode cX24_goThrough 68 = .ok (.getfield 37, 3) := dc_180 (a := 0) (b := 37) (n := 37) (by decide +kernel)
theorem dX24_goThrough_71 : decode cX24_goThrough 71 = .ok (.aload_n 0, 1) := dc_42 (by decide +kernel)
theorem dX24_goThrough_72 : decode cX24_goThrough 72 = .ok (.getfield 33, 3) := dc_180 (a := 0) (b := 33) (n := 33) (by decide +kernel)
theorem dX24_goThrough_75 : decode cX24_goThrough 75 = .ok (.aload_n 0, 1) := dc_42 (by decide +kernel)
theorem dX24_goThrough_76 : decode cX24_goThrough 76 = .ok (.getfield 12, 3) := dc_180 (a := 0) (b := 12) (n := 12) (by decide +kernel)
theorem dX24_goThrough_79 : decode cX24_goThrough 79 = .ok (.getfield 90, 3) := dc_180 (a := 0) (b := 90) (n := 90) (by decide +kernel)
theorem dX24_goThrough_82 : decode cX24_goThrough 82 = .ok (.iload 6, 2) := dc_21 (a := 6) (by decide +kernel)
theorem dX24_goThrough_84 : decode cX24_goThrough 84 = .ok (.iaload, 1) := dc_46 (by decide +kernel)
theorem dX24_goThrough_85 : decode cX24_goThrough 85 = .ok (.iload_n 1, 1) := dc_27 (by decide +kernel)
theorem dX24_goThrough_86 : decode cX24_goThrough 86 = .ok (.invokevirtual 133, 3) := dc_182 (a := 0) (b := 133) (n := 133) (by decide +kernel)
theorem dX24_goThrough_89 : decode cX24_goThrough 89 = .ok (.aload_n 0, 1) := dc_42 (by decide +kernel)
theorem dX24_goThrough_90 : decode cX24_goThrough 90 = .ok (.getfield 21, 3) := dc_180 (a := 0) (b := 21) (n := 21) (by decide +kernel)
theorem dX24_goThrough_93 : decode cX24_goThrough 93 = .ok (.aload_n 0, 1) := dc_42 (by decide +kernel)
theorem dX24_goThrough_94 : decode cX24_goThrough 94 = .ok (.getfield 44, 3) := dc_180 (a := 0) (b := 44) (n := 44) (by decide +kernel)
theorem dX24_goThrough_97 : decode cX24_goThrough 97 = .ok (.aload_n 0, 1) := dc_42 (by decide +kernel)
theorem dX24_goThrough_98 : decode cX24_goThrough 98 = .ok (.getfield 12, 3) := dc_180 (a := 0) (b := 12) (n := 12) (by decide +kernel)
theorem dX24_goThrough_101 : decode cX24_goThrough 101 = .ok (.getfield 99, 3) := dc_180 (a := 0) (b := 99) (n := 99) (by decide +kernel)
theorem dX24_goThrough_104 : decode cX24_goThrough 104 = .ok (.iload 6, 2) := dc_21 (a := 6) (by decide +kernel)
theorem dX24_goThrough_106 : decode cX24_goThrough 106 = .ok (.iaload, 1) := dc_46 (by decide +kernel)
theorem dX24_goThrough_107 : decode cX24_goThrough 107 = .ok (.bipush 19, 2) := dc_16 (a := 19) (v := 19) (by decide +kernel)
theorem dX24_goThrough_109 : decode cX24_goThrough 109 = .ok (.invokestatic 124, 3) := dc_184 (a := 0) (b := 124) (n := 124) (by decide +kernel)
theorem dX24_goThrough_112 : decode cX24_goThrough 112 = .ok (.iaload, 1) := dc_46 (by decide +kernel)
theorem dX24_goThrough_113 : decode cX24_goThrough 113 = .ok (.i2l, 1) := dc_133 (by decide +kernel)
theorem dX24_goThrough_114 : decode cX24_goThrough 114 = .ok (.aload_n 0, 1) := dc_42 (by decide +kernel)
theorem dX24_goThrough_115 : decode cX24_goThrough 115 = .ok (.getfield 37, 3) := dc_180 (a := 0) (b := 37) (n := 37) (by decide +kernel)
theorem dX24_goThrough_118 : decode cX24_goThrough 118 = .ok (.getfield 136, 3) := dc_180 (a := 0) (b := 136) (n := 136) (by decide +kernel)
theorem dX24_goThrough_121 : decode cX24_goThrough 121 = .ok (.lsub, 1) := dc_101 (by decide +kernel)
theorem dX24_goThrough_122 : decode cX24_goThrough 122 = .ok (.aload_n 0, 1) := dc_42 (by decide +kernel)
theorem dX24_goThrough_123 : decode cX24_goThrough 123 = .ok (.getfield 37, 3) := dc_180 (a := 0) (b := 37) (n := 37) (by decide +kernel)
theorem dX24_goThrough_126 : decode cX24_goThrough 126 = .ok (.invokevirtual 140, 3) := dc_182 (a := 0) (b := 140) (n := 140) (by decide +kernel)
theorem dX24_goThrough_129 : decode cX24_goThrough 129 = .ok (.aload_n 0, 1) := dc_42 (by decide +kernel)
theorem dX24_goThrough_130 : decode cX24_goThrough 130 = .ok (.getfield 21, 3) := dc_180 (a := 0) (b := 21) (n := 21) (by decide +kernel)
theorem dX24_goThrough_133 : decode cX24_goThrough 133 = .ok (.getfield 78, 3) := dc_180 (a := 0) (b := 78) (n := 78) (by decide +kernel)
theorem dX24_goThrough_136 : decode cX24_goThrough 136 = .ok (.aload_n 0, 1) := dc_42 (by decide +kernel)
theorem dX24_goThrough_137 : decode cX24_goThrough 137 = .ok (.getfield 144, 3) := dc_180 (a := 0) (b := 144) (n := 144) (by decide +kernel)
theorem dX24_goThrough_140 : decode cX24_goThrough 140 = .ok (.if_icmp .gt 10, 3) := dc_163 (a := 0) (b := 10) (v := 10) (by decide +kernel)
theorem dX24_goThrough_143 : decode cX24_goThrough 143 = .ok (.aload_n 0, 1) := dc_42 (by decide +kernel)
theorem dX24_goThrough_144 : decode cX24_goThrough 144 = .ok (.iload 6, 2) := dc_21 (a := 6) (by decide +kernel)
theorem dX24_goThrough_146 : decode cX24_goThrough 146 = .ok (.iload_n 1, 1) := dc_27 (by decide +kernel)
theorem dX24_goThrough_147 : decode cX24_goThrough 147 = .ok (.invokevirtual 147, 3) := dc_182 (a := 0) (b := 147) (n := 147) (by decide +kernel)
theorem dX24_goThrough_150 : decode cX24_goThrough 150 = .ok (.iload_n 2, 1) := dc_28 (by decide +kernel)
theorem dX24_goThrough_151 : decode cX24_goThrough 151 = .ok (.ifCond .ne 16, 3) := dc_154 (a := 0) (b := 16) (v := 16) (by decide +kernel)
theorem dX24_goThrough_154 : decode cX24_goThrough 154 = .ok (.aload_n 0, 1) := dc_42 (by decide +kernel)
theorem dX24_goThrough_155 : decode cX24_goThrough 155 = .ok (.getfield 21, 3) := dc_180 (a := 0) (b := 21) (n := 21) (by decide +kernel)
theorem dX24_goThrough_158 : decode cX24_goThrough 158 = .ok (.getfield 78, 3) := dc_180 (a := 0) (b := 78) (n := 78) (by decide +kernel)
theorem dX24_goThrough_161 : decode cX24_goThrough 161 = .ok (.sipush 10001, 3) := dc_17 (a := 39) (b := 17) (v := 10001) (by decide +kernel)
theorem dX24_goThrough_164 : decode cX24_goThrough 164 = .ok (.if_icmp .ne 74, 3) := dc_160 (a := 0) (b := 74) (v := 74) (by decide +kernel)
theorem dX24_goThrough_167 : decode cX24_goThrough 167 = .ok (.iload_n 3, 1) := dc_29 (by decide +kernel)
theorem dX24_goThrough_168 : decode cX24_goThrough 168 = .ok (.iconst (-1), 1) := dc_2 (by decide +kernel)
theorem dX24_goThrough_169 : decode cX24_goThrough 169 = .ok (.if_icmp .eq 13, 3) := dc_159 (a := 0) (b := 13) (v := 13) (by decide +kernel)
theorem dX24_goThrough_172 : decode cX24_goThrough 172 = .ok (.aload_n 0, 1) := dc_42 (by decide +kernel)
theorem dX24_goThrough_173 : decode cX24_goThrough 173 = .ok (.iload 6, 2) := dc_21 (a := 6) (by decide +kernel)
theorem dX24_goThrough_175 : decode cX24_goThrough 175 = .ok (.iload_n 3, 1) := dc_29 (by decide +kernel)
theorem dX24_goThrough_176 : decode cX24_goThrough 176 = .ok (.invokevirtual 151, 3) := dc_182 (a := 0) (b := 151) (n := 151) (by decide +kernel)
theorem dX24_goThrough_179 : decode cX24_goThrough 179 = .ok (.ifCond .eq 8, 3) := dc_153 (a := 0) (b := 8) (v := 8) (by decide +kernel)
theorem dX24_goThrough_182 : decode cX24_goThrough 182 = .ok (.iload 6, 2) := dc_21 (a := 6) (by decide +kernel)
theorem dX24_goThrough_184 : decode cX24_goThrough 184 = .ok (.goto 4, 3) := dc_167 (a := 0) (b := 4) (v := 4) (by decide +kernel)
theorem dX24_goThrough_187 : decode cX24_goThrough 187 = .ok (.iload_n 3, 1) := dc_29 (by decide +kernel)
theorem dX24_goThrough_188 : decode cX24_goThrough 188 = .ok (.istore_n 3, 1) := dc_62 (by decide +kernel)
theorem dX24_goThrough_189 : decode cX24_goThrough 189 = .ok (.iload 4, 2) := dc_21 (a := 4) (by decide +kernel)
theorem dX24_goThrough_191 : decode cX24_goThrough 191 = .ok (.iconst (-1), 1) := dc_2 (by decide +kernel)
theorem dX24_goThrough_192 : decode cX24_goThrough 192 = .ok (.if_icmp .ne 23, 3) := dc_160 (a := 0) (b := 23) (v := 23) (by decide +kernel)
theorem dX24_goThrough_195 : decode cX24_goThrough 195 = .ok (.aload_n 0, 1) := dc_42 (by decide +kernel)
theorem dX24_goThrough_196 : decode cX24_goThrough 196 = .ok (.getfield 12, 3) := dc_180 (a := 0) (b := 12) (n := 12) (by decide +kernel)
theorem dX24_goThrough_199 : decode cX24_goThrough 199 = .ok (.aload_n 0, 1) := dc_42 (by decide +kernel)
theorem dX24_goThrough_200 : decode cX24_goThrough 200 = .ok (.getfield 12, 3) := dc_180 (a := 0) (b := 12) (n := 12) (by decide +kernel)
theorem dX24_goThrough_203 : decode cX24_goThrough 203 = .ok (.getfield 154, 3) := dc_180 (a := 0) (b := 154) (n := 154) (by decide +kernel)
theorem dX24_goThrough_206 : decode cX24_goThrough 206 = .ok (.iload 6, 2) := dc_21 (a := 6) (by decide +kernel)
theorem dX24_goThrough_208 : decode cX24_goThrough 208 = .ok (.iaload, 1) := dc_46 (by decide +kernel)
theorem dX24_goThrough_209 : decode cX24_goThrough 209 = .ok (.putfield 127, 3) := dc_181 (a := 0) (b := 127) (n := 127) (by decide +kernel)
theorem dX24_goThrough_212 : decode cX24_goThrough 212 = .ok (.goto 33, 3) := dc_167 (a := 0) (b := 33) (v := 33) (by decide +kernel)
theorem dX24_goThrough_215 : decode cX24_goThrough 215 = .ok (.aload_n 0, 1) := dc_42 (by decide +kernel)
theorem dX24_goThrough_216 : decode cX24_goThrough 216 = .ok (.getfield 12, 3) := dc_180 (a := 0) (b := 12) (n := 12) (by decide +kernel)
theorem dX24_goThrough_219 : decode cX24_goThrough 219 = .ok (.getfield 154, 3) := dc_180 (a := 0) (b := 154) (n := 154) (by decide +kernel)
theorem dX24_goThrough_222 : decode cX24_goThrough 222 = .ok (.iload 4, 2) := dc_21 (a := 4) (by decide +kernel)
theorem dX24_goThrough_224 : decode cX24_goThrough 224 = .ok (.aload_n 0, 1) := dc_42 (by decide +kernel)
theorem dX24_goThrough_225 : decode cX24_goThrough 225 = .ok (.getfield 12, 3) := dc_180 (a := 0) (b := 12) (n := 12) (by decide +kernel)
theorem dX24_goThrough_228 : decode cX24_goThrough 228 = .ok (.getfield 154, 3) := dc_180 (a := 0) (b := 154) (n := 154) (by decide +kernel)
theorem dX24_goThrough_231 : decode cX24_goThrough 231 = .ok (.iload 6, 2) := dc_21 (a := 6) (by decide +kernel)
theorem dX24_goThrough_233 : decode cX24_goThrough 233 = .ok (.iaload, 1) := dc_46 (by decide +kernel)
theorem dX24_goThrough_234 : decode cX24_goThrough 234 = .ok (.iastore, 1) := dc_79 (by decide +kernel)
theorem dX24_goThrough_235 : decode cX24_goThrough 235 = .ok (.goto 10, 3) := dc_167 (a := 0) (b := 10) (v := 10) (by decide +kernel)
theorem dX24_goThrough_238 : decode cX24_goThrough 238 = .ok (.iload 6, 2) := dc_21 (a := 6) (by decide +kernel)
theorem dX24_goThrough_240 : decode cX24_goThrough 240 = .ok (.istore 4, 2) := dc_54 (a := 4) (by decide +kernel)
theorem dX24_goThrough_242 : decode cX24_goThrough 242 = .ok (.iconst 1, 1) := dc_4 (by decide +kernel)
theorem dX24_goThrough_243 : decode cX24_goThrough 243 = .ok (.istore 5, 2) := dc_54 (a := 5) (by decide +kernel)
theorem dX24_goThrough_245 : decode cX24_goThrough 245 = .ok (.aload_n 0, 1) := dc_42 (by decide +kernel)
theorem dX24_goThrough_246 : decode cX24_goThrough 246 = .ok (.getfield 12, 3) := dc_180 (a := 0) (b := 12) (n := 12) (by decide +kernel)
theorem dX24_goThrough_249 : decode cX24_goThrough 249 = .ok (.getfield 154, 3) := dc_180 (a := 0) (b := 154) (n := 154) (by decide +kernel)
theorem dX24_goThrough_252 : decode cX24_goThrough 252 = .ok (.iload 6, 2) := dc_21 (a := 6) (by decide +kernel)
theorem dX24_goThrough_254 : decode cX24_goThrough 254 = .ok (.iaload, 1) := dc_46 (by decide +kernel)
theorem dX24_goThrough_255 : decode cX24_goThrough 255 = .ok (.istore 6, 2) := dc_54 (a := 6) (by decide +kernel)
theorem dX24_goThrough_257 : decode cX24_goThrough 257 = .ok (.goto (-206), 3) := dc_167 (a := 255) (b := 50) (v := -206) (by decide +kernel)
theorem dX24_goThrough_260 : decode cX24_goThrough 260 = .ok (.iload 5, 2) := dc_21 (a := 5) (by decide +kernel)
theorem dX24_goThrough_262 : decode cX24_goThrough 262 = .ok (.ifCond .eq 7, 3) := dc_153 (a := 0) (b := 7) (v := 7) (by decide +kernel)
theorem dX24_goThrough_265 : decode cX24_goThrough 265 = .ok (.iconst (-1), 1) := dc_2 (by decide +kernel)
theorem dX24_goThrough_266 : decode cX24_goThrough 266 = .ok (.goto 4, 3) := dc_167 (a := 0) (b := 4) (v := 4) (by decide +kernel)
theorem dX24_goThrough_269 : decode cX24_goThrough 269 = .ok (.iload_n 3, 1) := dc_29 (by decide +kernel)
theorem dX24_goThrough_270 : decode cX24_goThrough 270 = .ok (.ireturn, 1) := dc_172 (by decide +kernel)
theorem GX24_127 {w : eW} {d : Nat} {Y : eY} {pc : Nat} {ls : eL} {st : List Value} {h : eH} {Q : eO → eH → Prop} {a : Nat} {x : Int32} (hf : g_I 24 h a 7 = some x) (hd : decode Y.2.1 pc = .ok (.getfield 127, 3)) (hY : Y.1.cls = RX24) (kk : wp w d Y (pc + 3) ls (.int x :: st) h Q) : wp w d Y pc ls (.ref a :: st) h Q := x_gIN (ci := 24) (k := 7) hf hd rfl (by decide) (by rw [hY]; exact q1359) kk
theorem GX24_130 {w : eW} {d : Nat} {Y : eY} {pc : Nat} {ls : eL} {st : List Value} {h : eH} {Q : eO → eH → Prop} {a : Nat} {x : Int32} (hf : g_I 23 h a 14 = some x) (hd : decode Y.2.1 pc = .ok (.getfield 130, 3)) (hY : Y.1.cls = RX24) (kk : wp w d Y (pc + 3) ls (.int x :: st) h Q) : wp w d Y pc ls (.ref a :: st) h Q := x_gI (ci := 23) (k := 14) hf hd rfl (by decide) (by rw [hY]; exact q1411) kk
theorem GX24_136 {w : eW} {d : Nat} {Y : eY} {pc : Nat} {ls : eL} {st : List Value} {h : eH} {Q : eO → eH → Prop} {a : Nat} {x : Int64} (hf : g_J 22 h a 8 = some x) (hd : decode Y.2.1 pc = .ok (.getfield 136, 3)) (hY : Y.1.cls = RX24) (kk : wp w d Y (pc + 3) ls (.long x :: st) h Q) : wp w d Y pc ls (.ref a :: st) h Q := x_gJN (ci := 22) (k := 8) hf hd rfl (by decide) (by rw [hY]; exact q1297) kk
theorem GX24_144 {w : eW} {d : Nat} {Y : eY} {pc : Nat} {ls : eL} {st : List Value} {h : eH} {Q : eO → eH → Prop} {a : Nat} {x : Int32} (hf : g_I 23 h a 10 = some x) (hd : decode Y.2.1 pc = .ok (.getfield 144, 3)) (hY : Y.1.cls = RX24) (kk : wp w d Y (pc + 3) ls (.int x :: st) h Q) : wp w d Y pc ls (.ref a :: st) h Q := x_gI (ci := 23) (k := 10) hf hd rfl (by decide) (by rw [hY]; exact q1406) kk
theorem GX24_154 {w : eW} {d : Nat} {Y : eY} {pc : Nat} {ls : eL} {st : List Value} {h : eH} {Q : eO → eH → Prop} {a : Nat} {x : Nat} (hf : g_A 24 h a 5 = some x) (hd : decode Y.2.1 pc = .ok (.getfield 154, 3)) (hY : Y.1.cls = RX24) (kk : wp w d Y (pc + 3) ls (.ref x :: st) h Q) : wp w d Y pc ls (.ref a :: st) h Q := x_gAN (ci := 24) (k := 5) hf hd rfl (by decide) (by rw [hY]; exact q1354) kk
theorem GX24_44 {w : eW} {d : Nat} {Y : eY} {pc : Nat} {ls : eL} {st : List Value} {h : eH} {Q : eO → eH → Prop} {a : Nat} {x : Nat} (hf : g_A 23 h a 3 = some x) (hd : decode Y.2.1 pc = .ok (.getfield 44, 3)) (hY : Y.1.cls = RX24) (kk : wp w d Y (pc + 3) ls (.ref x :: st) h Q) : wp w d Y pc ls (.ref a :: st) h Q := x_gA (ci := 23) (k := 3) hf hd rfl (by decide) (by rw [hY]; exact q1395) kk
theorem SX24_127 {w : eW} {d : Nat} {Y : eY} {pc : Nat} {ls : eL} {st : List Value} {h : eH} {Q : eO → eH → Prop} {a : Nat} {h' : eH} {x : Int32} (hf : p_V 24 h a 7 (.int x) = some h') (hd : decode Y.2.1 pc = .ok (.putfield 127, 3)) (hY : Y.1.cls = RX24) (kk : wp w d Y (pc + 3) ls st h' Q) : wp w d Y pc ls (.int x :: .ref a :: st) h Q := x_pIN (ci := 24) (k := 7) hf hd rfl (by decide) (by rw [hY]; exact q1359) rfl rfl kk
theorem SX24_130 {w : eW} {d : Nat} {Y : eY} {pc : Nat} {ls : eL} {st : List Value} {h : eH} {Q : eO → eH → Prop} {a : Nat} {h' : eH} {x : Int32} (hf : p_V 23 h a 14 (.int x) = some h') (hd : decode Y.2.1 pc = .ok (.putfield 130, 3)) (hY : Y.1.cls = RX24) (kk : wp w d Y (pc + 3) ls st h' Q) : wp w d Y pc ls (.int x :: .ref a :: st) h Q := x_pI (ci := 23) (k := 14) hf hd rfl (by decide) (by rw [hY]; exact q1411) rfl rfl kk
def fX24_goThrough_b245 (N : Nat) (k51 : Nat → Int32 → Int32 → Int32 → Int32 → Int32 → Int32 → eH → Option (Int32 × eH)) (l0 : Nat) (l1 : Int32) (l2 : Int32) (l3 : Int32) (l4 : Int32) (l5 : Int32) (l6 : Int32) (h : eH) : Option (Int32 × eH) :=
  (g_A 23 h l0 4).bind fun a1 =>
  (g_A 24 h a1 5).bind fun a3 =>
  (r_I 100 h a3 l6).bind fun x5 =>
  k51 l0 l1 l2 l3 l4 l5 x5 h
theorem pX24_goThrough_b245 {w : eW} {d : Nat} (hd : 3 ≤ d + 1) {N : Nat} {k51 : Nat → Int32 → Int32 → Int32 → Int32 → Int32 → Int32 → eH → Option (Int32 × eH)} (hk51 : ∀ l0 l1 l2 l3 l4 l5 l6 h q, k51 l0 l1 l2 l3 l4 l5 l6 h = some q → wp w (d + 1) YX24_goThrough 51 [some (.ref l0), some (.int l1), some (.int l2), some (.int l3), some (.int l4), some (.int l5), some (.int l6)] [] h (e_is (e_rn c_I q))) {l0 : Nat} {l1 : Int32} {l2 : Int32} {l3 : Int32} {l4 : Int32} {l5 : Int32} {l6 : Int32} {h : eH} {q} (hf : fX24_goThrough_b245 N k51 l0 l1 l2 l3 l4 l5 l6 h = some q) : wp w (d + 1) YX24_goThrough 245 [some (.ref l0), some (.int l1), some (.int l2), some (.int l3), some (.int l4), some (.int l5), some (.int l6)] [] h (e_is (e_rn c_I q)) := by
  unfold fX24_goThrough_b245 at hf
  refine w_aload_n dX24_goThrough_245 rfl rfl ?_
  obtain ⟨a1, b2, hf⟩ := Option.bind_eq_some_iff.mp hf
  refine GX24_12 b2 dX24_goThrough_246 rfl ?_
  obtain ⟨a3, b4, hf⟩ := Option.bind_eq_some_iff.mp hf
  refine GX24_154 b4 dX24_goThrough_249 rfl ?_
  refine w_iload dX24_goThrough_252 rfl ?_
  obtain ⟨x5, b6, hf⟩ := Option.bind_eq_some_iff.mp hf
  refine x_rI b6 dX24_goThrough_254 ?_
  refine w_istore dX24_goThrough_255 (by decide) (ls' := [some (.ref l0), some (.int l1), some (.int l2), some (.int l3), some (.int l4), some (.int l5), some (.int x5)]) rfl ?_
  refine w_goto 51 dX24_goThrough_257 (by decide) ?_
  exact (hk51 _ _ _ _ _ _ _ _ _ hf).to ⟨rfl, rfl, rfl, rfl, rfl, rfl, rfl, trivial⟩
def fX24_goThrough_b188 (N : Nat) (k51 : Nat → Int32 → Int32 → Int32 → Int32 → Int32 → Int32 → eH → Option (Int32 × eH)) (l0 : Nat) (l1 : Int32) (l2 : Int32) (l4 : Int32) (l5 : Int32) (l6 : Int32) (s0 : Int32) (h : eH) : Option (Int32 × eH) :=
  if ¬ l4 = (-1 : Int32) then
    (g_A 23 h l0 4).bind fun a2 =>
    (g_A 24 h a2 5).bind fun a4 =>
    (g_A 23 h l0 4).bind fun a6 =>
    (g_A 24 h a6 5).bind fun a8 =>
    (r_I 100 h a8 l6).bind fun x10 =>
    (q_V 100 h a4 l4 (.int x10)).bind fun h12 =>
    fX24_goThrough_b245 N k51 l0 l1 l2 s0 l4 l5 l6 h12
  else
    (g_A 23 h l0 4).bind fun a14 =>
    (g_A 23 h l0 4).bind fun a16 =>
    (g_A 24 h a16 5).bind fun a18 =>
    (r_I 100 h a18 l6).bind fun x20 =>
    (p_V 24 h a14 7 (.int x20)).bind fun h22 =>
    fX24_goThrough_b245 N k51 l0 l1 l2 s0 l4 l5 l6 h22
theorem pX24_goThrough_b188 {w : eW} {d : Nat} (hd : 3 ≤ d + 1) {N : Nat} {k51 : Nat → Int32 → Int32 → Int32 → Int32 → Int32 → Int32 → eH → Option (Int32 × eH)} (hk51 : ∀ l0 l1 l2 l3 l4 l5 l6 h q, k51 l0 l1 l2 l3 l4 l5 l6 h = some q → wp w (d + 1) YX24_goThrough 51 [some (.ref l0), some (.int l1), some (.int l2), some (.int l3), some (.int l4), some (.int l5), some (.int l6)] [] h (e_is (e_rn c_I q))) {l0 : Nat} {l1 : Int32} {l2 : Int32} {l4 : Int32} {l5 : Int32} {l6 : Int32} {s0 : Int32} {h : eH} {q} (hf : fX24_goThrough_b188 N k51 l0 l1 l2 l4 l5 l6 s0 h = some q) : wp w (d + 1) YX24_goThrough 188 [some (.ref l0), some (.int l1), some (.int l2), none, some (.int l4), some (.int l5), some (.int l6)] [.int s0] h (e_is (e_rn c_I q)) := by
  unfold fX24_goThrough_b188 at hf
  refine w_istore_n dX24_goThrough_188 rfl (by decide) (ls' := [some (.ref l0), some (.int l1), some (.int l2), some (.int s0), some (.int l4), some (.int l5), some (.int l6)]) rfl ?_
  refine w_iload dX24_goThrough_189 rfl ?_
  refine w_iconst dX24_goThrough_191 (v := -1) (by decide) ?_
  refine w_icmp_ne 215 dX24_goThrough_192 (by decide) (fun c1 => ?_) (fun c1 => ?_)
  · replace hf := (if_pos (show ¬ l4 = (-1 : Int32) from c1)).symm.trans hf
    refine w_aload_n dX24_goThrough_215 rfl rfl ?_
    obtain ⟨a2, b3, hf⟩ := Option.bind_eq_some_iff.mp hf
    refine GX24_12 b3 dX24_goThrough_216 rfl ?_
    obtain ⟨a4, b5, hf⟩ := Option.bind_eq_some_iff.mp hf
    refine GX24_154 b5 dX24_goThrough_219 rfl ?_
    refine w_iload dX24_goThrough_222 rfl ?_
    refine w_aload_n dX24_goThrough_224 rfl rfl ?_
    obtain ⟨a6, b7, hf⟩ := Option.bind_eq_some_iff.mp hf
    refine GX24_12 b7 dX24_goThrough_225 rfl ?_
    obtain ⟨a8, b9, hf⟩ := Option.bind_eq_some_iff.mp hf
    refine GX24_154 b9 dX24_goThrough_228 rfl ?_
    refine w_iload dX24_goThrough_231 rfl ?_
    obtain ⟨x10, b11, hf⟩ := Option.bind_eq_some_iff.mp hf
    refine x_rI b11 dX24_goThrough_233 ?_
    obtain ⟨h12, b13, hf⟩ := Option.bind_eq_some_iff.mp hf
    refine x_qI b13 dX24_goThrough_234 ?_
    refine w_goto 245 dX24_goThrough_235 (by decide) ?_
    exact (pX24_goThrough_b245 hd hk51 hf).to ⟨rfl, rfl, rfl, rfl, rfl, rfl, rfl, trivial⟩
  · replace hf := (if_neg (show ¬ (¬ l4 = (-1 : Int32)) from (fun z => z c1))).symm.trans hf
    refine w_aload_n dX24_goThrough_195 rfl rfl ?_
    obtain ⟨a14, b15, hf⟩ := Option.bind_eq_some_iff.mp hf
    refine GX24_12 b15 dX24_goThrough_196 rfl ?_
    refine w_aload_n dX24_goThrough_199 rfl rfl ?_
    obtain ⟨a16, b17, hf⟩ := Option.bind_eq_some_iff.mp hf
    refine GX24_12 b17 dX24_goThrough_200 rfl ?_
    obtain ⟨a18, b19, hf⟩ := Option.bind_eq_some_iff.mp hf
    refine GX24_154 b19 dX24_goThrough_203 rfl ?_
    refine w_iload dX24_goThrough_206 rfl ?_
    obtain ⟨x20, b21, hf⟩ := Option.bind_eq_some_iff.mp hf
    refine x_rI b21 dX24_goThrough_208 ?_
    obtain ⟨h22, b23, hf⟩ := Option.bind_eq_some_iff.mp hf
    refine SX24_127 b23 dX24_goThrough_209 rfl ?_
    refine w_goto 245 dX24_goThrough_212 (by decide) ?_
    exact (pX24_goThrough_b245 hd hk51 hf).to ⟨rfl, rfl, rfl, rfl, rfl, rfl, rfl, trivial⟩
def fX24_goThrough_b182 (N : Nat) (k51 : Nat → Int32 → Int32 → Int32 → Int32 → Int32 → Int32 → eH → Option (Int32 × eH)) (l0 : Nat) (l1 : Int32) (l2 : Int32) (l4 : Int32) (l5 : Int32) (l6 : Int32) (h : eH) : Option (Int32 × eH) :=
  fX24_goThrough_b188 N k51 l0 l1 l2 l4 l5 l6 l6 h
theorem pX24_goThrough_b182 {w : eW} {d : Nat} (hd : 3 ≤ d + 1) {N : Nat} {k51 : Nat → Int32 → Int32 → Int32 → Int32 → Int32 → Int32 → eH → Option (Int32 × eH)} (hk51 : ∀ l0 l1 l2 l3 l4 l5 l6 h q, k51 l0 l1 l2 l3 l4 l5 l6 h = some q → wp w (d + 1) YX24_goThrough 51 [some (.ref l0), some (.int l1), some (.int l2), some (.int l3), some (.int l4), some (.int l5), some (.int l6)] [] h (e_is (e_rn c_I q))) {l0 : Nat} {l1 : Int32} {l2 : Int32} {l4 : Int32} {l5 : Int32} {l6 : Int32} {h : eH} {q} (hf : fX24_goThrough_b182 N k51 l0 l1 l2 l4 l5 l6 h = some q) : wp w (d + 1) YX24_goThrough 182 [some (.ref l0), some (.int l1), some (.int l2), none, some (.int l4), some (.int l5), some (.int l6)] [] h (e_is (e_rn c_I q)) := by
  unfold fX24_goThrough_b182 at hf
  refine w_iload dX24_goThrough_182 rfl ?_
  refine w_goto 188 dX24_goThrough_184 (by decide) ?_
  exact (pX24_goThrough_b188 hd hk51 hf).to ⟨rfl, rfl, rfl, rfl, rfl, rfl, trivial⟩
def fX24_goThrough_b167 (N : Nat) (k51 : Nat → Int32 → Int32 → Int32 → Int32 → Int32 → Int32 → eH → Option (Int32 × eH)) (l0 : Nat) (l1 : Int32) (l2 : Int32) (l3 : Int32) (l4 : Int32) (l5 : Int32) (l6 : Int32) (h : eH) : Option (Int32 × eH) :=
  if l3 = (-1 : Int32) then
    fX24_goThrough_b182 N k51 l0 l1 l2 l4 l5 l6 h
  else
    (k_ok 23 h l0).bind fun _ =>
    (fX24_isLater l0 l6 l3 h).bind fun q3 =>
    if q3.1 = 0 then
      fX24_goThrough_b188 N k51 l0 l1 l2 l4 l5 l6 l3 q3.2
    else
      fX24_goThrough_b182 N k51 l0 l1 l2 l4 l5 l6 q3.2
theorem pX24_goThrough_b167 {w : eW} {d : Nat} (hd : 3 ≤ d + 1) {N : Nat} {k51 : Nat → Int32 → Int32 → Int32 → Int32 → Int32 → Int32 → eH → Option (Int32 × eH)} (hk51 : ∀ l0 l1 l2 l3 l4 l5 l6 h q, k51 l0 l1 l2 l3 l4 l5 l6 h = some q → wp w (d + 1) YX24_goThrough 51 [some (.ref l0), some (.int l1), some (.int l2), some (.int l3), some (.int l4), some (.int l5), some (.int l6)] [] h (e_is (e_rn c_I q))) {l0 : Nat} {l1 : Int32} {l2 : Int32} {l3 : Int32} {l4 : Int32} {l5 : Int32} {l6 : Int32} {h : eH} {q} (hf : fX24_goThrough_b167 N k51 l0 l1 l2 l3 l4 l5 l6 h = some q) : wp w (d + 1) YX24_goThrough 167 [some (.ref l0), some (.int l1), some (.int l2), some (.int l3), some (.int l4), some (.int l5), some (.int l6)] [] h (e_is (e_rn c_I q)) := by
  unfold fX24_goThrough_b167 at hf
  refine w_iload_n dX24_goThrough_167 rfl rfl ?_
  refine w_iconst dX24_goThrough_168 (v := -1) (by decide) ?_
  refine w_icmp_eq 182 dX24_goThrough_169 (by decide) (fun c1 => ?_) (fun c1 => ?_)
  · replace hf := (if_pos (show l3 = (-1 : Int32) from c1)).symm.trans hf
    exact (pX24_goThrough_b182 hd hk51 hf).to ⟨rfl, rfl, rfl, rfl, rfl, rfl, trivial⟩
  · replace hf := (if_neg (show ¬ (l3 = (-1 : Int32)) from c1)).symm.trans hf
    refine w_aload_n dX24_goThrough_172 rfl rfl ?_
    refine w_iload dX24_goThrough_173 rfl ?_
    refine w_iload_n dX24_goThrough_175 rfl rfl ?_
    obtain ⟨_, b2, hf⟩ := Option.bind_eq_some_iff.mp hf
    refine x_cnI hf (e_stV (Yc := YX24_isLater) (ci := 23) (av := [.int l6, .int l3]) (st := []) dX24_goThrough_176 q3813 mX24_isLater rfl (k_ok_some b2).1 (k_ok_some b2).2) mX24_isLater.2.2.1 mX24_isLater.2.2.2.2.1 (Nat.le_of_ble_eq_true rfl) (Nat.le_of_ble_eq_true rfl) (fun q hq => pX24_isLater (by omega) hq) (fun q3 hf => ?_)
    refine w_if_eq 187 dX24_goThrough_179 (by decide) (fun c4 => ?_) (fun c4 => ?_)
    · replace hf := (if_pos (show q3.1 = 0 from c4)).symm.trans hf
      refine w_iload_n dX24_goThrough_187 rfl rfl ?_
      exact (pX24_goThrough_b188 hd hk51 hf).to ⟨rfl, rfl, rfl, rfl, rfl, rfl, trivial⟩
    · replace hf := (if_neg (show ¬ (q3.1 = 0) from c4)).symm.trans hf
      exact (pX24_goThrough_b182 hd hk51 hf).to ⟨rfl, rfl, rfl, rfl, rfl, rfl, trivial⟩
def fX24_goThrough_b150 (N : Nat) (k51 : Nat → Int32 → Int32 → Int32 → Int32 → Int32 → Int32 → eH → Option (Int32 × eH)) (l0 : Nat) (l1 : Int32) (l2 : Int32) (l3 : Int32) (l4 : Int32) (l5 : Int32) (l6 : Int32) (h : eH) : Option (Int32 × eH) :=
  if ¬ l2 = 0 then
    fX24_goThrough_b167 N k51 l0 l1 l2 l3 l4 l5 l6 h
  else
    (g_A 23 h l0 5).bind fun a2 =>
    (g_I 25 h a2 0).bind fun x4 =>
    if ¬ x4 = (10001 : Int32) then
      fX24_goThrough_b245 N k51 l0 l1 l2 l3 l6 (1 : Int32) l6 h
    else
      fX24_goThrough_b167 N k51 l0 l1 l2 l3 l4 l5 l6 h
theorem pX24_goThrough_b150 {w : eW} {d : Nat} (hd : 3 ≤ d + 1) {N : Nat} {k51 : Nat → Int32 → Int32 → Int32 → Int32 → Int32 → Int32 → eH → Option (Int32 × eH)} (hk51 : ∀ l0 l1 l2 l3 l4 l5 l6 h q, k51 l0 l1 l2 l3 l4 l5 l6 h = some q → wp w (d + 1) YX24_goThrough 51 [some (.ref l0), some (.int l1), some (.int l2), some (.int l3), some (.int l4), some (.int l5), some (.int l6)] [] h (e_is (e_rn c_I q))) {l0 : Nat} {l1 : Int32} {l2 : Int32} {l3 : Int32} {l4 : Int32} {l5 : Int32} {l6 : Int32} {h : eH} {q} (hf : fX24_goThrough_b150 N k51 l0 l1 l2 l3 l4 l5 l6 h = some q) : wp w (d + 1) YX24_goThrough 150 [some (.ref l0), some (.int l1), some (.int l2), some (.int l3), some (.int l4), some (.int l5), some (.int l6)] [] h (e_is (e_rn c_I q)) := by
  unfold fX24_goThrough_b150 at hf
  refine w_iload_n dX24_goThrough_150 rfl rfl ?_
  refine w_if_ne 167 dX24_goThrough_151 (by decide) (fun c1 => ?_) (fun c1 => ?_)
  · replace hf := (if_pos (show ¬ l2 = 0 from c1)).symm.trans hf
    exact (pX24_goThrough_b167 hd hk51 hf).to ⟨rfl, rfl, rfl, rfl, rfl, rfl, rfl, trivial⟩
  · replace hf := (if_neg (show ¬ (¬ l2 = 0) from (fun z => z c1))).symm.trans hf
    refine w_aload_n dX24_goThrough_154 rfl rfl ?_
    obtain ⟨a2, b3, hf⟩ := Option.bind_eq_some_iff.mp hf
    refine GX24_21 b3 dX24_goThrough_155 rfl ?_
    obtain ⟨x4, b5, hf⟩ := Option.bind_eq_some_iff.mp hf
    refine GX24_78 b5 dX24_goThrough_158 rfl ?_
    refine w_sipush dX24_goThrough_161 (v := 10001) (by decide) ?_
    refine w_icmp_ne 238 dX24_goThrough_164 (by decide) (fun c6 => ?_) (fun c6 => ?_)
    · replace hf := (if_pos (show ¬ x4 = (10001 : Int32) from c6)).symm.trans hf
      refine w_iload dX24_goThrough_238 rfl ?_
      refine w_istore dX24_goThrough_240 (by decide) (ls' := [some (.ref l0), some (.int l1), some (.int l2), some (.int l3), some (.int l6), some (.int l5), some (.int l6)]) rfl ?_
      refine w_iconst dX24_goThrough_242 (v := 1) (by decide) ?_
      refine w_istore dX24_goThrough_243 (by decide) (ls' := [some (.ref l0), some (.int l1), some (.int l2), some (.int l3), some (.int l6), some (.int (1 : Int32)), some (.int l6)]) rfl ?_
      exact (pX24_goThrough_b245 hd hk51 hf).to ⟨rfl, rfl, rfl, rfl, rfl, rfl, rfl, trivial⟩
    · replace hf := (if_neg (show ¬ (¬ x4 = (10001 : Int32)) from (fun z => z c6))).symm.trans hf
      exact (pX24_goThrough_b167 hd hk51 hf).to ⟨rfl, rfl, rfl, rfl, rfl, rfl, rfl, trivial⟩
def fX24_goThrough_b270 (N : Nat) (s0 : Int32) (h : eH) : Option (Int32 × eH) :=
  some (s0, h)
theorem pX24_goThrough_b270 {w : eW} {d : Nat} (hd : 3 ≤ d + 1) {N : Nat} {s0 : Int32} {h : eH} {q} (hf : fX24_goThrough_b270 N s0 h = some q) : wp w (d + 1) YX24_goThrough 270 [none, none, none, none, none, none, none] [.int s0] h (e_is (e_rn c_I q)) := by
  unfold fX24_goThrough_b270 at hf
  cases hf
  exact w_iret dX24_goThrough_270 rfl rfl rfl
def fX24_goThrough_b51 (N : Nat) : Nat → Nat → Int32 → Int32 → Int32 → Int32 → Int32 → Int32 → eH → Option (Int32 × eH)
  | 0, _, _, _, _, _, _, _, _ => none
  | n + 1, l0, l1, l2, l3, l4, l5, l6, h =>
    if l6 = (-1 : Int32) then
      if l5 = 0 then
        fX24_goThrough_b270 N l3 h
      else
        fX24_goThrough_b270 N (-1 : Int32) h
    else
      (g_I 23 h l0 14).bind fun x3 =>
      (p_V 23 h l0 14 (.int (x3 + (1 : Int32)))).bind fun h5 =>
      (g_A 23 h5 l0 1).bind fun a7 =>
      (g_A 23 h5 l0 0).bind fun a9 =>
      (g_A 23 h5 l0 4).bind fun a11 =>
      (g_A 24 h5 a11 0).bind fun a13 =>
      (r_I 100 h5 a13 l6).bind fun x15 =>
      (k_ok 22 h5 a7).bind fun _ =>
      (fX23_measure N a7 a9 x15 l1 h5).bind fun q18 =>
      (g_A 23 q18.2 l0 5).bind fun a19 =>
      (g_A 23 q18.2 l0 3).bind fun a21 =>
      (g_A 23 q18.2 l0 4).bind fun a23 =>
      (g_A 24 q18.2 a23 1).bind fun a25 =>
      (r_I 100 q18.2 a25 l6).bind fun x27 =>
      (r_I 100 q18.2 a21 (m_minI x27 (19 : Int32))).bind fun x29 =>
      (g_A 23 q18.2 l0 1).bind fun a31 =>
      (g_J 22 q18.2 a31 8).bind fun x33 =>
      (g_A 23 q18.2 l0 1).bind fun a35 =>
      (k_ok 25 q18.2 a19).bind fun _ =>
      (fX26_weigh a19 ((x29).toInt64 - x33) a35 q18.2).bind fun q38 =>
      (g_A 23 q38.2 l0 5).bind fun a39 =>
      (g_I 25 q38.2 a39 0).bind fun x41 =>
      (g_I 23 q38.2 l0 10).bind fun x43 =>
      if x43 < x41 then
        fX24_goThrough_b150 N (fX24_goThrough_b51 N n) l0 l1 l2 l3 l4 l5 l6 q38.2
      else
        (k_ok 23 q38.2 l0).bind fun _ =>
        (fX24_offer l0 l6 l1 q38.2).bind fun q47 =>
        fX24_goThrough_b150 N (fX24_goThrough_b51 N n) l0 l1 l2 l3 l4 l5 l6 q47.2
theorem pX24_goThrough_b51 {w : eW} {d : Nat} (hd : 3 ≤ d + 1) {N : Nat} : ∀ (n : Nat) l0 l1 l2 l3 l4 l5 l6 h q, fX24_goThrough_b51 N n l0 l1 l2 l3 l4 l5 l6 h = some q → wp w (d + 1) YX24_goThrough 51 [some (.ref l0), some (.int l1), some (.int l2), some (.int l3), some (.int l4), some (.int l5), some (.int l6)] [] h (e_is (e_rn c_I q)) := by
  intro n
  induction n with
  | zero => intro l0 l1 l2 l3 l4 l5 l6 h q hf; simp [fX24_goThrough_b51] at hf
  | succ n ih =>
    intro l0 l1 l2 l3 l4 l5 l6 h q hf
    rw [fX24_goThrough_b51] at hf
    refine w_iload dX24_goThrough_51 rfl ?_
    refine w_iconst dX24_goThrough_53 (v := -1) (by decide) ?_
    refine w_icmp_eq 260 dX24_goThrough_54 (by decide) (fun c1 => ?_) (fun c1 => ?_)
    · replace hf := (if_pos (show l6 = (-1 : Int32) from c1)).symm.trans hf
      refine w_iload dX24_goThrough_260 rfl ?_
      refine w_if_eq 269 dX24_goThrough_262 (by decide) (fun c2 => ?_) (fun c2 => ?_)
      · replace hf := (if_pos (show l5 = 0 from c2)).symm.trans hf
        refine w_iload_n dX24_goThrough_269 rfl rfl ?_
        exact (pX24_goThrough_b270 hd hf).to trivial
      · replace hf := (if_neg (show ¬ (l5 = 0) from c2)).symm.trans hf
        refine w_iconst dX24_goThrough_265 (v := -1) (by decide) ?_
        refine w_goto 270 dX24_goThrough_266 (by decide) ?_
        exact (pX24_goThrough_b270 hd hf).to trivial
    · replace hf := (if_neg (show ¬ (l6 = (-1 : Int32)) from c1)).symm.trans hf
      refine w_aload_n dX24_goThrough_57 rfl rfl ?_
      refine w_dup dX24_goThrough_58 rfl ?_
      obtain ⟨x3, b4, hf⟩ := Option.bind_eq_some_iff.mp hf
      refine GX24_130 b4 dX24_goThrough_59 rfl ?_
      refine w_iconst dX24_goThrough_62 (v := 1) (by decide) ?_
      refine w_iadd dX24_goThrough_63 ?_
      obtain ⟨h5, b6, hf⟩ := Option.bind_eq_some_iff.mp hf
      refine SX24_130 b6 dX24_goThrough_64 rfl ?_
      refine w_aload_n dX24_goThrough_67 rfl rfl ?_
      obtain ⟨a7, b8, hf⟩ := Option.bind_eq_some_iff.mp hf
      refine GX24_37 b8 dX24_goThrough_68 rfl ?_
      refine w_aload_n dX24_goThrough_71 rfl rfl ?_
      obtain ⟨a9, b10, hf⟩ := Option.bind_eq_some_iff.mp hf
      refine GX24_33 b10 dX24_goThrough_72 rfl ?_
      refine w_aload_n dX24_goThrough_75 rfl rfl ?_
      obtain ⟨a11, b12, hf⟩ := Option.bind_eq_some_iff.mp hf
      refine GX24_12 b12 dX24_goThrough_76 rfl ?_
      obtain ⟨a13, b14, hf⟩ := Option.bind_eq_some_iff.mp hf
      refine GX24_90 b14 dX24_goThrough_79 rfl ?_
      refine w_iload dX24_goThrough_82 rfl ?_
      obtain ⟨x15, b16, hf⟩ := Option.bind_eq_some_iff.mp hf
      refine x_rI b16 dX24_goThrough_84 ?_
      refine w_iload_n dX24_goThrough_85 rfl rfl ?_
      obtain ⟨_, b17, hf⟩ := Option.bind_eq_some_iff.mp hf
      refine x_cnV hf (e_stV (Yc := YX23_measure) (ci := 22) (av := [.ref a9, .int x15, .int l1]) (st := []) dX24_goThrough_86 q3772 mX23_measure rfl (k_ok_some b17).1 (k_ok_some b17).2) mX23_measure.2.2.1 mX23_measure.2.2.2.2.1 (Nat.le_of_ble_eq_true rfl) (Nat.le_of_ble_eq_true rfl) (fun q hq => pX23_measure (by omega) hq) (fun q18 hf => ?_)
      refine w_aload_n dX24_goThrough_89 rfl rfl ?_
      obtain ⟨a19, b20, hf⟩ := Option.bind_eq_some_iff.mp hf
      refine GX24_21 b20 dX24_goThrough_90 rfl ?_
      refine w_aload_n dX24_goThrough_93 rfl rfl ?_
      obtain ⟨a21, b22, hf⟩ := Option.bind_eq_some_iff.mp hf
      refine GX24_44 b22 dX24_goThrough_94 rfl ?_
      refine w_aload_n dX24_goThrough_97 rfl rfl ?_
      obtain ⟨a23, b24, hf⟩ := Option.bind_eq_some_iff.mp hf
      refine GX24_12 b24 dX24_goThrough_98 rfl ?_
      obtain ⟨a25, b26, hf⟩ := Option.bind_eq_some_iff.mp hf
      refine GX24_99 b26 dX24_goThrough_101 rfl ?_
      refine w_iload dX24_goThrough_104 rfl ?_
      obtain ⟨x27, b28, hf⟩ := Option.bind_eq_some_iff.mp hf
      refine x_rI b28 dX24_goThrough_106 ?_
      refine w_bipush dX24_goThrough_107 (v := 19) (by decide) ?_
      refine x_minI dX24_goThrough_109 q3781 q2930 q478 q2931 (Nat.le_of_ble_eq_true rfl) ?_
      obtain ⟨x29, b30, hf⟩ := Option.bind_eq_some_iff.mp hf
      refine x_rI b30 dX24_goThrough_112 ?_
      refine w_i2l dX24_goThrough_113 ?_
      refine w_aload_n dX24_goThrough_114 rfl rfl ?_
      obtain ⟨a31, b32, hf⟩ := Option.bind_eq_some_iff.mp hf
      refine GX24_37 b32 dX24_goThrough_115 rfl ?_
      obtain ⟨x33, b34, hf⟩ := Option.bind_eq_some_iff.mp hf
      refine GX24_136 b34 dX24_goThrough_118 rfl ?_
      refine w_lsub dX24_goThrough_121 ?_
      refine w_aload_n dX24_goThrough_122 rfl rfl ?_
      obtain ⟨a35, b36, hf⟩ := Option.bind_eq_some_iff.mp hf
      refine GX24_37 b36 dX24_goThrough_123 rfl ?_
      obtain ⟨_, b37, hf⟩ := Option.bind_eq_some_iff.mp hf
      refine x_cnV hf (e_stV (Yc := YX26_weigh) (ci := 25) (av := [.long ((x29).toInt64 - x33), .ref a35]) (st := []) dX24_goThrough_126 q3782 mX26_weigh rfl (k_ok_some b37).1 (k_ok_some b37).2) mX26_weigh.2.2.1 mX26_weigh.2.2.2.2.1 (Nat.le_of_ble_eq_true rfl) (Nat.le_of_ble_eq_true rfl) (fun q hq => pX26_weigh (by omega) hq) (fun q38 hf => ?_)
      refine w_aload_n dX24_goThrough_129 rfl rfl ?_
      obtain ⟨a39, b40, hf⟩ := Option.bind_eq_some_iff.mp hf
      refine GX24_21 b40 dX24_goThrough_130 rfl ?_
      obtain ⟨x41, b42, hf⟩ := Option.bind_eq_some_iff.mp hf
      refine GX24_78 b42 dX24_goThrough_133 rfl ?_
      refine w_aload_n dX24_goThrough_136 rfl rfl ?_
      obtain ⟨x43, b44, hf⟩ := Option.bind_eq_some_iff.mp hf
      refine GX24_144 b44 dX24_goThrough_137 rfl ?_
      refine w_icmp_gt 150 dX24_goThrough_140 (by decide) (fun c45 => ?_) (fun c45 => ?_)
      · replace hf := (if_pos (show x43 < x41 from c45)).symm.trans hf
        exact (pX24_goThrough_b150 hd ih hf).to ⟨rfl, rfl, rfl, rfl, rfl, rfl, rfl, trivial⟩
      · replace hf := (if_neg (show ¬ (x43 < x41) from c45)).symm.trans hf
        refine w_aload_n dX24_goThrough_143 rfl rfl ?_
        refine w_iload dX24_goThrough_144 rfl ?_
        refine w_iload_n dX24_goThrough_146 rfl rfl ?_
        obtain ⟨_, b46, hf⟩ := Option.bind_eq_some_iff.mp hf
        refine x_cnV hf (e_stV (Yc := YX24_offer) (ci := 23) (av := [.int l6, .int l1]) (st := []) dX24_goThrough_147 q3795 mX24_offer rfl (k_ok_some b46).1 (k_ok_some b46).2) mX24_offer.2.2.1 mX24_offer.2.2.2.2.1 (Nat.le_of_ble_eq_true rfl) (Nat.le_of_ble_eq_true rfl) (fun q hq => pX24_offer (by omega) hq) (fun q47 hf => ?_)
        exact (pX24_goThrough_b150 hd ih hf).to ⟨rfl, rfl, rfl, rfl, rfl, rfl, rfl, trivial⟩
def fX24_goThrough_b16 (N : Nat) (l0 : Nat) (l1 : Int32) (s0 : Int32) (h : eH) : Option (Int32 × eH) :=
  (p_Z 23 h l0 13 (0 : Int32)).bind fun h1 =>
  (p_V 23 h1 l0 11 (.int (0 : Int32))).bind fun h3 =>
  (p_V 23 h3 l0 12 (.int (2003 : Int32))).bind fun h5 =>
  (g_A 23 h5 l0 4).bind fun a7 =>
  (g_I 24 h5 a7 7).bind fun x9 =>
  fX24_goThrough_b51 N N l0 l1 s0 (-1 : Int32) (-1 : Int32) (0 : Int32) x9 h5
theorem pX24_goThrough_b16 {w : eW} {d : Nat} (hd : 3 ≤ d + 1) {N : Nat} {l0 : Nat} {l1 : Int32} {s0 : Int32} {h : eH} {q} (hf : fX24_goThrough_b16 N l0 l1 s0 h = some q) : wp w (d + 1) YX24_goThrough 16 [some (.ref l0), some (.int l1), none, none, none, none, none] [.int s0] h (e_is (e_rn c_I q)) := by
  unfold fX24_goThrough_b16 at hf
  refine w_istore_n dX24_goThrough_16 rfl (by decide) (ls' := [some (.ref l0), some (.int l1), some (.int s0), none, none, none, none]) rfl ?_
  refine w_aload_n dX24_goThrough_17 rfl rfl ?_
  refine w_iconst dX24_goThrough_18 (v := 0) (by decide) ?_
  obtain ⟨h1, b2, hf⟩ := Option.bind_eq_some_iff.mp hf
  refine SX24_111 b2 dX24_goThrough_19 rfl ?_
  refine w_aload_n dX24_goThrough_22 rfl rfl ?_
  refine w_iconst dX24_goThrough_23 (v := 0) (by decide) ?_
  obtain ⟨h3, b4, hf⟩ := Option.bind_eq_some_iff.mp hf
  refine SX24_114 b4 dX24_goThrough_24 rfl ?_
  refine w_aload_n dX24_goThrough_27 rfl rfl ?_
  refine w_sipush dX24_goThrough_28 (v := 2003) (by decide) ?_
  obtain ⟨h5, b6, hf⟩ := Option.bind_eq_some_iff.mp hf
  refine SX24_121 b6 dX24_goThrough_31 rfl ?_
  refine w_iconst dX24_goThrough_34 (v := -1) (by decide) ?_
  refine w_istore_n dX24_goThrough_35 rfl (by decide) (ls' := [some (.ref l0), some (.int l1), some (.int s0), some (.int (-1 : Int32)), none, none, none]) rfl ?_
  refine w_iconst dX24_goThrough_36 (v := -1) (by decide) ?_
  refine w_istore dX24_goThrough_37 (by decide) (ls' := [some (.ref l0), some (.int l1), some (.int s0), some (.int (-1 : Int32)), some (.int (-1 : Int32)), none, none]) rfl ?_
  refine w_iconst dX24_goThrough_39 (v := 0) (by decide) ?_
  refine w_istore dX24_goThrough_40 (by decide) (ls' := [some (.ref l0), some (.int l1), some (.int s0), some (.int (-1 : Int32)), some (.int (-1 : Int32)), some (.int (0 : Int32)), none]) rfl ?_
  refine w_aload_n dX24_goThrough_42 rfl rfl ?_
  obtain ⟨a7, b8, hf⟩ := Option.bind_eq_some_iff.mp hf
  refine GX24_12 b8 dX24_goThrough_43 rfl ?_
  obtain ⟨x9, b10, hf⟩ := Option.bind_eq_some_iff.mp hf
  refine GX24_127 b10 dX24_goThrough_46 rfl ?_
  refine w_istore dX24_goThrough_49 (by decide) (ls' := [some (.ref l0), some (.int l1), some (.int s0), some (.int (-1 : Int32)), some (.int (-1 : Int32)), some (.int (0 : Int32)), some (.int x9)]) rfl ?_
  exact (pX24_goThrough_b51 hd N _ _ _ _ _ _ _ _ _ hf).to ⟨rfl, rfl, rfl, rfl, rfl, rfl, rfl, trivial⟩
def fX24_goThrough (N : Nat) (this : Nat) (p0 : Int32) (h : eH) : Option (Int32 × eH) :=
  (k_ok 23 h this).bind fun _ =>
  (fX24_penaltyOf this p0 h).bind fun q2 =>
  if ¬ q2.1 = (-10000 : Int32) then
    fX24_goThrough_b16 N this p0 (0 : Int32) q2.2
  else
    fX24_goThrough_b16 N this p0 (1 : Int32) q2.2
theorem pX24_goThrough {w : eW} {d : Nat} (hd : 3 ≤ d) {N : Nat} {this : Nat} {p0 : Int32} {h : eH} {q} (hf : fX24_goThrough N this p0 h = some q) : wm w d YX24_goThrough [.ref this, .int p0] h (e_is (e_rn c_I q)) := by
  obtain ⟨d, rfl⟩ : ∃ e, d = e + 1 := ⟨d - 1, by omega⟩
  show wp w (d + 1) YX24_goThrough 0 [some (.ref this), some (.int p0), none, none, none, none, none] [] h _
  unfold fX24_goThrough at hf
  refine w_aload_n dX24_goThrough_0 rfl rfl ?_
  refine w_iload_n dX24_goThrough_1 rfl rfl ?_
  obtain ⟨_, b1, hf⟩ := Option.bind_eq_some_iff.mp hf
  refine x_cnI hf (e_stV (Yc := YX24_penaltyOf) (ci := 23) (av := [.int p0]) (st := []) dX24_goThrough_2 q3759 mX24_penaltyOf rfl (k_ok_some b1).1 (k_ok_some b1).2) mX24_penaltyOf.2.2.1 mX24_penaltyOf.2.2.2.2.1 (Nat.le_of_ble_eq_true rfl) (Nat.le_of_ble_eq_true rfl) (fun q hq => pX24_penaltyOf (by omega) hq) (fun q2 hf => ?_)
  refine w_sipush dX24_goThrough_5 (v := -10000) (by decide) ?_
  refine w_icmp_ne 15 dX24_goThrough_8 (by decide) (fun c3 => ?_) (fun c3 => ?_)
  · replace hf := (if_pos (show ¬ q2.1 = (-10000 : Int32) from c3)).symm.trans hf
    refine w_iconst dX24_goThrough_15 (v := 0) (by decide) ?_
    exact (pX24_goThrough_b16 hd hf).to ⟨rfl, rfl, trivial⟩
  · replace hf := (if_neg (show ¬ (¬ q2.1 = (-10000 : Int32)) from (fun z => z c3))).symm.trans hf
    refine w_iconst dX24_goThrough_11 (v := 1) (by decide) ?_
    refine w_goto 16 dX24_goThrough_12 (by decide) ?_
    exact (pX24_goThrough_b16 hd hf).to ⟨rfl, rfl, trivial⟩
abbrev cX24_makeNodes : ByteArray := prog_24_method_9_code
def yX24_makeNodes : MethodName := ⟨RX24, "makeNodes", "(I)Z"⟩
def YX24_makeNodes : eY := (yX24_makeNodes, cX24_makeNodes, 6, (Option.some FieldType.boolean), [])
theorem mX24_makeNodes : e_mv YX24_makeNodes RX24 1 := ⟨q3820, qs175, q3821, by decide, by decide +kernel, (e_sig (by decide +kernel))⟩
theorem dX24_makeNodes_0 : decode cX24_makeNodes 0 = .ok (.aload_n 0, 1) := dc_42 (by decide +kernel)
theorem dX24_makeNodes_1 : decode cX24_makeNodes 1 = .ok (.getfield 121, 3) := dc_180 (a := 0) (b := 121) (n := 121) (by decide +kernel)
theorem dX24_makeNodes_4 : decode cX24_makeNodes 4 = .ok (.istore_n 2, 1) := dc_61 (by decide +kernel)
theorem dX24_makeNodes_5 : decode cX24_makeNodes 5 = .ok (.iload_n 2, 1) := dc_28 (by decide +kernel)
theorem dX24_makeNodes_6 : decode cX24_makeNodes 6 = .ok (.aload_n 0, 1) := dc_42 (by decide +kernel)
theorem dX24_makeNodes_7 : decode cX24_makeNodes 7 = .ok (.getfield 114, 3) := dc_180 (a := 0) (b := 114) (n := 114) (by decide +kernel)
theorem dX24_makeNodes_10 : decode cX24_makeNodes 10 = .ok (.if_icmp .gt 92, 3) := dc_163 (a := 0) (b := 92) (v := 92) (by decide +kernel)
theorem dX24_makeNodes_13 : decode cX24_makeNodes 13 = .ok (.iconst 0, 1) := dc_3 (by decide +kernel)
theorem dX24_makeNodes_14 : decode cX24_makeNodes 14 = .ok (.istore_n 3, 1) := dc_62 (by decide +kernel)
theorem dX24_makeNodes_15 : decode cX24_makeNodes 15 = .ok (.iload_n 3, 1) := dc_29 (by decide +kernel)
theorem dX24_makeNodes_16 : decode cX24_makeNodes 16 = .ok (.iconst 4, 1) := dc_7 (by decide +kernel)
theorem dX24_makeNodes_17 : decode cX24_makeNodes 17 = .ok (.if_icmp .ge 79, 3) := dc_162 (a := 0) (b := 79) (v := 79) (by decide +kernel)
theorem dX24_makeNodes_20 : decode cX24_makeNodes 20 = .ok (.iconst 4, 1) := dc_7 (by decide +kernel)
theorem dX24_makeNodes_21 : decode cX24_makeNodes 21 = .ok (.iload_n 2, 1) := dc_28 (by decide +kernel)
theorem dX24_makeNodes_22 : decode cX24_makeNodes 22 = .ok (.imul, 1) := dc_104 (by decide +kernel)
theorem dX24_makeNodes_23 : decode cX24_makeNodes 23 = .ok (.iload_n 3, 1) := dc_29 (by decide +kernel)
theorem dX24_makeNodes_24 : decode cX24_makeNodes 24 = .ok (.iadd, 1) := dc_96 (by decide +kernel)
theorem dX24_makeNodes_25 : decode cX24_makeNodes 25 = .ok (.istore 4, 2) := dc_54 (a := 4) (by decide +kernel)
theorem dX24_makeNodes_27 : decode cX24_makeNodes 27 = .ok (.aload_n 0, 1) := dc_42 (by decide +kernel)
theorem dX24_makeNodes_28 : decode cX24_makeNodes 28 = .ok (.getfield 25, 3) := dc_180 (a := 0) (b := 25) (n := 25) (by decide +kernel)
theorem dX24_makeNodes_31 : decode cX24_makeNodes 31 = .ok (.iload 4, 2) := dc_21 (a := 4) (by decide +kernel)
theorem dX24_makeNodes_33 : decode cX24_makeNodes 33 = .ok (.iaload, 1) := dc_46 (by decide +kernel)
theorem dX24_makeNodes_34 : decode cX24_makeNodes 34 = .ok (.iconst (-1), 1) := dc_2 (by decide +kernel)
theorem dX24_makeNodes_35 : decode cX24_makeNodes 35 = .ok (.if_icmp .ne 6, 3) := dc_160 (a := 0) (b := 6) (v := 6) (by decide +kernel)
theorem dX24_makeNodes_38 : decode cX24_makeNodes 38 = .ok (.goto 52, 3) := dc_167 (a := 0) (b := 52) (v := 52) (by decide +kernel)
theorem dX24_makeNodes_41 : decode cX24_makeNodes 41 = .ok (.aload_n 0, 1) := dc_42 (by decide +kernel)
theorem dX24_makeNodes_42 : decode cX24_makeNodes 42 = .ok (.getfield 12, 3) := dc_180 (a := 0) (b := 12) (n := 12) (by decide +kernel)
theorem dX24_makeNodes_45 : decode cX24_makeNodes 45 = .ok (.getfield 157, 3) := dc_180 (a := 0) (b := 157) (n := 157) (by decide +kernel)
theorem dX24_makeNodes_48 : decode cX24_makeNodes 48 = .ok (.sipush 8000, 3) := dc_17 (a := 31) (b := 64) (v := 8000) (by decide +kernel)
theorem dX24_makeNodes_51 : decode cX24_makeNodes 51 = .ok (.if_icmp .le 5, 3) := dc_164 (a := 0) (b := 5) (v := 5) (by decide +kernel)
theorem dX24_makeNodes_54 : decode cX24_makeNodes 54 = .ok (.iconst 0, 1) := dc_3 (by decide +kernel)
theorem dX24_makeNodes_55 : decode cX24_makeNodes 55 = .ok (.ireturn, 1) := dc_172 (by decide +kernel)
theorem dX24_makeNodes_56 : decode cX24_makeNodes 56 = .ok (.aload_n 0, 1) := dc_42 (by decide +kernel)
theorem dX24_makeNodes_57 : decode cX24_makeNodes 57 = .ok (.getfield 12, 3) := dc_180 (a := 0) (b := 12) (n := 12) (by decide +kernel)
theorem dX24_makeNodes_60 : decode cX24_makeNodes 60 = .ok (.iload_n 1, 1) := dc_27 (by decide +kernel)
theorem dX24_makeNodes_61 : decode cX24_makeNodes 61 = .ok (.iload_n 2, 1) := dc_28 (by decide +kernel)
theorem dX24_makeNodes_62 : decode cX24_makeNodes 62 = .ok (.iload_n 3, 1) := dc_29 (by decide +kernel)
theorem dX24_makeNodes_63 : decode cX24_makeNodes 63 = .ok (.aload_n 0, 1) := dc_42 (by decide +kernel)
theorem dX24_makeNodes_64 : decode cX24_makeNodes 64 = .ok (.getfield 29, 3) := dc_180 (a := 0) (b := 29) (n := 29) (by decide +kernel)
theorem dX24_makeNodes_67 : decode cX24_makeNodes 67 = .ok (.iload 4, 2) := dc_21 (a := 4) (by decide +kernel)
theorem dX24_makeNodes_69 : decode cX24_makeNodes 69 = .ok (.laload, 1) := dc_47 (by decide +kernel)
theorem dX24_makeNodes_70 : decode cX24_makeNodes 70 = .ok (.aload_n 0, 1) := dc_42 (by decide +kernel)
theorem dX24_makeNodes_71 : decode cX24_makeNodes 71 = .ok (.getfield 25, 3) := dc_180 (a := 0) (b := 25) (n := 25) (by decide +kernel)
theorem dX24_makeNodes_74 : decode cX24_makeNodes 74 = .ok (.iload 4, 2) := dc_21 (a := 4) (by decide +kernel)
theorem dX24_makeNodes_76 : decode cX24_makeNodes 76 = .ok (.iaload, 1) := dc_46 (by decide +kernel)
theorem dX24_makeNodes_77 : decode cX24_makeNodes 77 = .ok (.invokevirtual 158, 3) := dc_182 (a := 0) (b := 158) (n := 158) (by decide +kernel)
theorem dX24_makeNodes_80 : decode cX24_makeNodes 80 = .ok (.istore 5, 2) := dc_54 (a := 5) (by decide +kernel)
theorem dX24_makeNodes_82 : decode cX24_makeNodes 82 = .ok (.aload_n 0, 1) := dc_42 (by decide +kernel)
theorem dX24_makeNodes_83 : decode cX24_makeNodes 83 = .ok (.getfield 25, 3) := dc_180 (a := 0) (b := 25) (n := 25) (by decide +kernel)
theorem dX24_makeNodes_86 : decode cX24_makeNodes 86 = .ok (.iload 4, 2) := dc_21 (a := 4) (by decide +kernel)
theorem dX24_makeNodes_88 : decode cX24_makeNodes 88 = .ok (.iconst (-1), 1) := dc_2 (by decide +kernel)
theorem dX24_makeNodes_89 : decode cX24_makeNodes 89 = .ok (.iastore, 1) := dc_79 (by decide +kernel)
theorem dX24_makeNodes_90 : decode cX24_makeNodes 90 = .ok (.iinc 3 1, 3) := dc_132 (a := 3) (b := 1) (v := 1) (by decide +kernel)
theorem dX24_makeNodes_93 : decode cX24_makeNodes 93 = .ok (.goto (-78), 3) := dc_167 (a := 255) (b := 178) (v := -78) (by decide +kernel)
theorem dX24_makeNodes_96 : decode cX24_makeNodes 96 = .ok (.iinc 2 1, 3) := dc_132 (a := 2) (b := 1) (v := 1) (by decide +kernel)
theorem dX24_makeNodes_99 : decode cX24_makeNodes 99 = .ok (.goto (-94), 3) := dc_167 (a := 255) (b := 162) (v := -94) (by decide +kernel)
theorem dX24_makeNodes_102 : decode cX24_makeNodes 102 = .ok (.iconst 1, 1) := dc_4 (by decide +kernel)
theorem dX24_makeNodes_103 : decode cX24_makeNodes 103 = .ok (.ireturn, 1) := dc_172 (by decide +kernel)
theorem GX24_157 {w : eW} {d : Nat} {Y : eY} {pc : Nat} {ls : eL} {st : List Value} {h : eH} {Q : eO → eH → Prop} {a : Nat} {x : Int32} (hf : g_I 24 h a 6 = some x) (hd : decode Y.2.1 pc = .ok (.getfield 157, 3)) (hY : Y.1.cls = RX24) (kk : wp w d Y (pc + 3) ls (.int x :: st) h Q) : wp w d Y pc ls (.ref a :: st) h Q := x_gIN (ci := 24) (k := 6) hf hd rfl (by decide) (by rw [hY]; exact q1356) kk
def fX24_makeNodes_b90 (N : Nat) (k15 : Nat → Int32 → Int32 → Int32 → eH → Option (Int32 × eH)) (l0 : Nat) (l1 : Int32) (l2 : Int32) (l3 : Int32) (h : eH) : Option (Int32 × eH) :=
  k15 l0 l1 l2 (l3 + (1 : Int32)) h
theorem pX24_makeNodes_b90 {w : eW} {d : Nat} (hd : 1 ≤ d + 1) {N : Nat} {k15 : Nat → Int32 → Int32 → Int32 → eH → Option (Int32 × eH)} (hk15 : ∀ l0 l1 l2 l3 h q, k15 l0 l1 l2 l3 h = some q → wp w (d + 1) YX24_makeNodes 15 [some (.ref l0), some (.int l1), some (.int l2), some (.int l3), none, none] [] h (e_is (e_rn c_I q))) {l0 : Nat} {l1 : Int32} {l2 : Int32} {l3 : Int32} {h : eH} {q} (hf : fX24_makeNodes_b90 N k15 l0 l1 l2 l3 h = some q) : wp w (d + 1) YX24_makeNodes 90 [some (.ref l0), some (.int l1), some (.int l2), some (.int l3), none, none] [] h (e_is (e_rn c_I q)) := by
  unfold fX24_makeNodes_b90 at hf
  refine w_iinc dX24_makeNodes_90 (v := (l3 + (1 : Int32))) rfl rfl (by decide) (ls' := [some (.ref l0), some (.int l1), some (.int l2), some (.int (l3 + (1 : Int32))), none, none]) rfl ?_
  refine w_goto 15 dX24_makeNodes_93 (by decide) ?_
  exact (hk15 _ _ _ _ _ _ hf).to ⟨rfl, rfl, rfl, rfl, trivial⟩
def fX24_makeNodes_b15 (N : Nat) (k5 : Nat → Int32 → Int32 → eH → Option (Int32 × eH)) : Nat → Nat → Int32 → Int32 → Int32 → eH → Option (Int32 × eH)
  | 0, _, _, _, _, _ => none
  | n + 1, l0, l1, l2, l3, h =>
    if (4 : Int32) ≤ l3 then
      k5 l0 l1 (l2 + (1 : Int32)) h
    else
      (g_A 23 h l0 6).bind fun a2 =>
      (r_I 100 h a2 (((4 : Int32) * l2) + l3)).bind fun x4 =>
      if ¬ x4 = (-1 : Int32) then
        (g_A 23 h l0 4).bind fun a7 =>
        (g_I 24 h a7 6).bind fun x9 =>
        if x9 ≤ (8000 : Int32) then
          (g_A 23 h l0 4).bind fun a12 =>
          (g_A 23 h l0 7).bind fun a14 =>
          (r_J h a14 (((4 : Int32) * l2) + l3)).bind fun x16 =>
          (g_A 23 h l0 6).bind fun a18 =>
          (r_I 100 h a18 (((4 : Int32) * l2) + l3)).bind fun x20 =>
          (k_ok 24 h a12).bind fun _ =>
          (fX25_add a12 l1 l2 l3 x16 x20 h).bind fun q23 =>
          (g_A 23 q23.2 l0 6).bind fun a24 =>
          (q_V 100 q23.2 a24 (((4 : Int32) * l2) + l3) (.int (-1 : Int32))).bind fun h26 =>
          fX24_makeNodes_b90 N (fX24_makeNodes_b15 N k5 n) l0 l1 l2 l3 h26
        else
          some ((0 : Int32), h)
      else
        fX24_makeNodes_b90 N (fX24_makeNodes_b15 N k5 n) l0 l1 l2 l3 h
theorem pX24_makeNodes_b15 {w : eW} {d : Nat} (hd : 1 ≤ d + 1) {N : Nat} {k5 : Nat → Int32 → Int32 → eH → Option (Int32 × eH)} (hk5 : ∀ l0 l1 l2 h q, k5 l0 l1 l2 h = some q → wp w (d + 1) YX24_makeNodes 5 [some (.ref l0), some (.int l1), some (.int l2), none, none, none] [] h (e_is (e_rn c_I q))) : ∀ (n : Nat) l0 l1 l2 l3 h q, fX24_makeNodes_b15 N k5 n l0 l1 l2 l3 h = some q → wp w (d + 1) YX24_makeNodes 15 [some (.ref l0), some (.int l1), some (.int l2), some (.int l3), none, none] [] h (e_is (e_rn c_I q)) := by
  intro n
  induction n with
  | zero => intro l0 l1 l2 l3 h q hf; simp [fX24_makeNodes_b15] at hf
  | succ n ih =>
    intro l0 l1 l2 l3 h q hf
    rw [fX24_makeNodes_b15] at hf
    refine w_iload_n dX24_makeNodes_15 rfl rfl ?_
    refine w_iconst dX24_makeNodes_16 (v := 4) (by decide) ?_
    refine w_icmp_ge 96 dX24_makeNodes_17 (by decide) (fun c1 => ?_) (fun c1 => ?_)
    · replace hf := (if_pos (show (4 : Int32) ≤ l3 from c1)).symm.trans hf
      refine w_iinc dX24_makeNodes_96 (v := (l2 + (1 : Int32))) rfl rfl (by decide) (ls' := [some (.ref l0), some (.int l1), some (.int (l2 + (1 : Int32))), some (.int l3), none, none]) rfl ?_
      refine w_goto 5 dX24_makeNodes_99 (by decide) ?_
      exact (hk5 _ _ _ _ _ hf).to ⟨rfl, rfl, rfl, trivial⟩
    · replace hf := (if_neg (show ¬ ((4 : Int32) ≤ l3) from c1)).symm.trans hf
      refine w_iconst dX24_makeNodes_20 (v := 4) (by decide) ?_
      refine w_iload_n dX24_makeNodes_21 rfl rfl ?_
      refine w_imul dX24_makeNodes_22 ?_
      refine w_iload_n dX24_makeNodes_23 rfl rfl ?_
      refine w_iadd dX24_makeNodes_24 ?_
      refine w_istore dX24_makeNodes_25 (by decide) (ls' := [some (.ref l0), some (.int l1), some (.int l2), some (.int l3), some (.int (((4 : Int32) * l2) + l3)), none]) rfl ?_
      refine w_aload_n dX24_makeNodes_27 rfl rfl ?_
      obtain ⟨a2, b3, hf⟩ := Option.bind_eq_some_iff.mp hf
      refine GX24_25 b3 dX24_makeNodes_28 rfl ?_
      refine w_iload dX24_makeNodes_31 rfl ?_
      obtain ⟨x4, b5, hf⟩ := Option.bind_eq_some_iff.mp hf
      refine x_rI b5 dX24_makeNodes_33 ?_
      refine w_iconst dX24_makeNodes_34 (v := -1) (by decide) ?_
      refine w_icmp_ne 41 dX24_makeNodes_35 (by decide) (fun c6 => ?_) (fun c6 => ?_)
      · replace hf := (if_pos (show ¬ x4 = (-1 : Int32) from c6)).symm.trans hf
        refine w_aload_n dX24_makeNodes_41 rfl rfl ?_
        obtain ⟨a7, b8, hf⟩ := Option.bind_eq_some_iff.mp hf
        refine GX24_12 b8 dX24_makeNodes_42 rfl ?_
        obtain ⟨x9, b10, hf⟩ := Option.bind_eq_some_iff.mp hf
        refine GX24_157 b10 dX24_makeNodes_45 rfl ?_
        refine w_sipush dX24_makeNodes_48 (v := 8000) (by decide) ?_
        refine w_icmp_le 56 dX24_makeNodes_51 (by decide) (fun c11 => ?_) (fun c11 => ?_)
        · replace hf := (if_pos (show x9 ≤ (8000 : Int32) from c11)).symm.trans hf
          refine w_aload_n dX24_makeNodes_56 rfl rfl ?_
          obtain ⟨a12, b13, hf⟩ := Option.bind_eq_some_iff.mp hf
          refine GX24_12 b13 dX24_makeNodes_57 rfl ?_
          refine w_iload_n dX24_makeNodes_60 rfl rfl ?_
          refine w_iload_n dX24_makeNodes_61 rfl rfl ?_
          refine w_iload_n dX24_makeNodes_62 rfl rfl ?_
          refine w_aload_n dX24_makeNodes_63 rfl rfl ?_
          obtain ⟨a14, b15, hf⟩ := Option.bind_eq_some_iff.mp hf
          refine GX24_29 b15 dX24_makeNodes_64 rfl ?_
          refine w_iload dX24_makeNodes_67 rfl ?_
          obtain ⟨x16, b17, hf⟩ := Option.bind_eq_some_iff.mp hf
          refine x_rJ b17 dX24_makeNodes_69 ?_
          refine w_aload_n dX24_makeNodes_70 rfl rfl ?_
          obtain ⟨a18, b19, hf⟩ := Option.bind_eq_some_iff.mp hf
          refine GX24_25 b19 dX24_makeNodes_71 rfl ?_
          refine w_iload dX24_makeNodes_74 rfl ?_
          obtain ⟨x20, b21, hf⟩ := Option.bind_eq_some_iff.mp hf
          refine x_rI b21 dX24_makeNodes_76 ?_
          obtain ⟨_, b22, hf⟩ := Option.bind_eq_some_iff.mp hf
          refine x_cnI hf (e_stV (Yc := YX25_add) (ci := 24) (av := [.int l1, .int l2, .int l3, .long x16, .int x20]) (st := []) dX24_makeNodes_77 q3817 mX25_add rfl (k_ok_some b22).1 (k_ok_some b22).2) mX25_add.2.2.1 mX25_add.2.2.2.2.1 (Nat.le_of_ble_eq_true rfl) (Nat.le_of_ble_eq_true rfl) (fun q hq => pX25_add (by omega) hq) (fun q23 hf => ?_)
          refine w_istore dX24_makeNodes_80 (by decide) (ls' := [some (.ref l0), some (.int l1), some (.int l2), some (.int l3), some (.int (((4 : Int32) * l2) + l3)), some (.int q23.1)]) rfl ?_
          refine w_aload_n dX24_makeNodes_82 rfl rfl ?_
          obtain ⟨a24, b25, hf⟩ := Option.bind_eq_some_iff.mp hf
          refine GX24_25 b25 dX24_makeNodes_83 rfl ?_
          refine w_iload dX24_makeNodes_86 rfl ?_
          refine w_iconst dX24_makeNodes_88 (v := -1) (by decide) ?_
          obtain ⟨h26, b27, hf⟩ := Option.bind_eq_some_iff.mp hf
          refine x_qI b27 dX24_makeNodes_89 ?_
          exact (pX24_makeNodes_b90 hd ih hf).to ⟨rfl, rfl, rfl, rfl, trivial⟩
        · replace hf := (if_neg (show ¬ (x9 ≤ (8000 : Int32)) from c11)).symm.trans hf
          refine w_iconst dX24_makeNodes_54 (v := 0) (by decide) ?_
          cases hf
          exact w_iret dX24_makeNodes_55 rfl rfl rfl
      · replace hf := (if_neg (show ¬ (¬ x4 = (-1 : Int32)) from (fun z => z c6))).symm.trans hf
        refine w_goto 90 dX24_makeNodes_38 (by decide) ?_
        exact (pX24_makeNodes_b90 hd ih hf).to ⟨rfl, rfl, rfl, rfl, trivial⟩
def fX24_makeNodes_b5 (N : Nat) : Nat → Nat → Int32 → Int32 → eH → Option (Int32 × eH)
  | 0, _, _, _, _ => none
  | n + 1, l0, l1, l2, h =>
    (g_I 23 h l0 11).bind fun x1 =>
    if x1 < l2 then
      some ((1 : Int32), h)
    else
      fX24_makeNodes_b15 N (fX24_makeNodes_b5 N n) N l0 l1 l2 (0 : Int32) h
theorem pX24_makeNodes_b5 {w : eW} {d : Nat} (hd : 1 ≤ d + 1) {N : Nat} : ∀ (n : Nat) l0 l1 l2 h q, fX24_makeNodes_b5 N n l0 l1 l2 h = some q → wp w (d + 1) YX24_makeNodes 5 [some (.ref l0), some (.int l1), some (.int l2), none, none, none] [] h (e_is (e_rn c_I q)) := by
  intro n
  induction n with
  | zero => intro l0 l1 l2 h q hf; simp [fX24_makeNodes_b5] at hf
  | succ n ih =>
    intro l0 l1 l2 h q hf
    rw [fX24_makeNodes_b5] at hf
    refine w_iload_n dX24_makeNodes_5 rfl rfl ?_
    refine w_aload_n dX24_makeNodes_6 rfl rfl ?_
    obtain ⟨x1, b2, hf⟩ := Option.bind_eq_some_iff.mp hf
    refine GX24_114 b2 dX24_makeNodes_7 rfl ?_
    refine w_icmp_gt 102 dX24_makeNodes_10 (by decide) (fun c3 => ?_) (fun c3 => ?_)
    · replace hf := (if_pos (show x1 < l2 from c3)).symm.trans hf
      refine w_iconst dX24_makeNodes_102 (v := 1) (by decide) ?_
      cases hf
      exact w_iret dX24_makeNodes_103 rfl rfl rfl
    · replace hf := (if_neg (show ¬ (x1 < l2) from c3)).symm.trans hf
      refine w_iconst dX24_makeNodes_13 (v := 0) (by decide) ?_
      refine w_istore_n dX24_makeNodes_14 rfl (by decide) (ls' := [some (.ref l0), some (.int l1), some (.int l2), some (.int (0 : Int32)), none, none]) rfl ?_
      exact (pX24_makeNodes_b15 hd ih N _ _ _ _ _ _ hf).to ⟨rfl, rfl, rfl, rfl, trivial⟩
def fX24_makeNodes (N : Nat) (this : Nat) (p0 : Int32) (h : eH) : Option (Int32 × eH) :=
  (g_I 23 h this 12).bind fun x1 =>
  fX24_makeNodes_b5 N N this p0 x1 h
theorem pX24_makeNodes {w : eW} {d : Nat} (hd : 1 ≤ d) {N : Nat} {this : Nat} {p0 : Int32} {h : eH} {q} (hf : fX24_makeNodes N this p0 h = some q) : wm w d YX24_makeNodes [.ref this, .int p0] h (e_is (e_rn c_I q)) := by
  obtain ⟨d, rfl⟩ : ∃ e, d = e + 1 := ⟨d - 1, by omega⟩
  show wp w (d + 1) YX24_makeNodes 0 [some (.ref this), some (.int p0), none, none, none, none] [] h _
  unfold fX24_makeNodes at hf
  refine w_aload_n dX24_makeNodes_0 rfl rfl ?_
  obtain ⟨x1, b2, hf⟩ := Option.bind_eq_some_iff.mp hf
  refine GX24_121 b2 dX24_makeNodes_1 rfl ?_
  refine w_istore_n dX24_makeNodes_4 rfl (by decide) (ls' := [some (.ref this), some (.int p0), some (.int x1), none, none, none]) rfl ?_
  exact (pX24_makeNodes_b5 hd N _ _ _ _ _ hf).to ⟨rfl, rfl, rfl, trivial⟩
