set_option maxRecDepth 100000
set_option maxHeartbeats 4000000
theorem q623 : (Jvm.Cond.fieldLinkNest "TypeHouse$Layout" (73 : Nat) "TypeHouse$Pool" "places" "[I" "TypeHouse") ∈ lw_tbl := lw_at lw_m1 198 rfl
theorem q1205 : (Jvm.Cond.fieldLink "TypeHouse$Layout" (45 : Nat) "TypeHouse$Layout" "size" "I") ∈ lw_all := lw_g (lw_at lw_m4 60 rfl) rfl
theorem q1211 : (Jvm.Cond.fieldLink "TypeHouse$Layout" (38 : Nat) "TypeHouse$Layout" "depth" "I") ∈ lw_all := lw_g (lw_at lw_m4 66 rfl) rfl
theorem q1492 : (Jvm.Cond.fieldLinkNest "TypeHouse$Sums" (25 : Nat) "TypeHouse$PageItems" "kinds" "[B" "TypeHouse") ∈ lw_tbl := lw_at lw_m5 107 rfl
theorem q1493 : (Jvm.Cond.fieldLinkNest "TypeHouse$Press" (597 : Nat) "TypeHouse$PageItems" "kinds" "[B" "TypeHouse") ∈ lw_tbl := lw_at lw_m5 108 rfl
theorem q1495 : (Jvm.Cond.fieldLinkNest "TypeHouse$Sums" (41 : Nat) "TypeHouse$PageItems" "firsts" "[I" "TypeHouse") ∈ lw_tbl := lw_at lw_m5 110 rfl
theorem q1496 : (Jvm.Cond.fieldLinkNest "TypeHouse$PageBuilder" (86 : Nat) "TypeHouse$PageItems" "firsts" "[I" "TypeHouse") ∈ lw_tbl := lw_at lw_m5 111 rfl
theorem q1497 : (Jvm.Cond.fieldLinkNest "TypeHouse$Press" (600 : Nat) "TypeHouse$PageItems" "firsts" "[I" "TypeHouse") ∈ lw_tbl := lw_at lw_m5 112 rfl
theorem q1499 : (Jvm.Cond.fieldLinkNest "TypeHouse$Sums" (31 : Nat) "TypeHouse$PageItems" "seconds" "[I" "TypeHouse") ∈ lw_tbl := lw_at lw_m5 114 rfl
theorem q1500 : (Jvm.Cond.fieldLinkNest "TypeHouse$Page" (79 : Nat) "TypeHouse$PageItems" "seconds" "[I" "TypeHouse") ∈ lw_tbl := lw_at lw_m5 115 rfl
theorem q1503 : (Jvm.Cond.fieldLinkNest "TypeHouse$Sums" (35 : Nat) "TypeHouse$PageItems" "thirds" "[I" "TypeHouse") ∈ lw_tbl := lw_at lw_m5 118 rfl
theorem q1506 : (Jvm.Cond.fieldLinkNest "TypeHouse$Sums" (38 : Nat) "TypeHouse$PageItems" "orders" "[B" "TypeHouse") ∈ lw_tbl := lw_at lw_m5 121 rfl
theorem q1508 : (Jvm.Cond.fieldLinkNest "TypeHouse$Press" (601 : Nat) "TypeHouse$PageItems" "extras" "[I" "TypeHouse") ∈ lw_tbl := lw_at lw_m5 123 rfl
theorem q1510 : (Jvm.Cond.fieldLink "TypeHouse$PageItems" (37 : Nat) "TypeHouse$PageItems" "size" "I") ∈ lw_all := lw_g (lw_at lw_m5 125 rfl) rfl
theorem q1511 : (Jvm.Cond.fieldLinkNest "TypeHouse$PageBuilder" (123 : Nat) "TypeHouse$PageItems" "size" "I" "TypeHouse") ∈ lw_tbl := lw_at lw_m5 126 rfl
theorem q1540 : (Jvm.Cond.fieldLinkNest "TypeHouse$Page" (39 : Nat) "TypeHouse$Sums" "stretch" "[J" "TypeHouse") ∈ lw_tbl := lw_at lw_m5 155 rfl
theorem q1542 : (Jvm.Cond.fieldLinkNest "TypeHouse$Page" (43 : Nat) "TypeHouse$Sums" "shrink" "J" "TypeHouse") ∈ lw_tbl := lw_at lw_m5 157 rfl
theorem q1543 : (Jvm.Cond.fieldLinkNest "TypeHouse$Page" (20 : Nat) "TypeHouse$Sums" "length" "J" "TypeHouse") ∈ lw_tbl := lw_at lw_m5 158 rfl
theorem q1566 : (Jvm.Cond.fieldLinkNest "TypeHouse$PageBuilder" (98 : Nat) "TypeHouse$Page" "sums" "LTypeHouse$Sums;" "TypeHouse") ∈ lw_tbl := lw_at lw_m5 181 rfl
theorem q1567 : (Jvm.Cond.fieldLink "TypeHouse$Page" (16 : Nat) "TypeHouse$Page" "height" "I") ∈ lw_all := lw_g (lw_at lw_m5 182 rfl) rfl
theorem q1568 : (Jvm.Cond.fieldLinkNest "TypeHouse$PageBuilder" (55 : Nat) "TypeHouse$Page" "height" "I" "TypeHouse") ∈ lw_tbl := lw_at lw_m5 183 rfl
theorem q1569 : (Jvm.Cond.fieldLinkNest "TypeHouse$PageBuilder" (59 : Nat) "TypeHouse$Page" "top" "I" "TypeHouse") ∈ lw_tbl := lw_at lw_m5 184 rfl
theorem q1570 : (Jvm.Cond.fieldLink "TypeHouse$Page" (76 : Nat) "TypeHouse$Page" "top" "I") ∈ lw_all := lw_g (lw_at lw_m5 185 rfl) rfl
theorem q1571 : (Jvm.Cond.fieldLinkNest "TypeHouse$PageBuilder" (63 : Nat) "TypeHouse$Page" "greatest" "I" "TypeHouse") ∈ lw_tbl := lw_at lw_m5 186 rfl
theorem q1574 : (Jvm.Cond.fieldLink "TypeHouse$Page" (49 : Nat) "TypeHouse$Page" "first" "I") ∈ lw_all := lw_g (lw_at lw_m5 189 rfl) rfl
theorem q1575 : (Jvm.Cond.fieldLinkNest "TypeHouse$Press" (590 : Nat) "TypeHouse$Page" "first" "I" "TypeHouse") ∈ lw_tbl := lw_at lw_m5 190 rfl
theorem q1576 : (Jvm.Cond.fieldLinkNest "TypeHouse$PageBuilder" (90 : Nat) "TypeHouse$Page" "end" "I" "TypeHouse") ∈ lw_tbl := lw_at lw_m5 191 rfl
theorem q1577 : (Jvm.Cond.fieldLinkNest "TypeHouse$Press" (594 : Nat) "TypeHouse$Page" "end" "I" "TypeHouse") ∈ lw_tbl := lw_at lw_m5 192 rfl
theorem q1578 : (Jvm.Cond.fieldLinkNest "TypeHouse$PageBuilder" (93 : Nat) "TypeHouse$Page" "cost" "I" "TypeHouse") ∈ lw_tbl := lw_at lw_m5 193 rfl
theorem q1579 : (Jvm.Cond.fieldLinkNest "TypeHouse$PageBuilder" (95 : Nat) "TypeHouse$Page" "ender" "I" "TypeHouse") ∈ lw_tbl := lw_at lw_m5 194 rfl
theorem q1580 : (Jvm.Cond.fieldLink "TypeHouse$Page" (31 : Nat) "TypeHouse$Page" "badness" "I") ∈ lw_all := lw_g (lw_at lw_m5 195 rfl) rfl
theorem q1581 : (Jvm.Cond.fieldLink "TypeHouse$Page" (24 : Nat) "TypeHouse$Page" "excess" "J") ∈ lw_all := lw_g (lw_at lw_m5 196 rfl) rfl
theorem q1582 : (Jvm.Cond.fieldLink "TypeHouse$Page" (37 : Nat) "TypeHouse$Page" "order" "I") ∈ lw_all := lw_g (lw_at lw_m5 197 rfl) rfl
theorem q1583 : (Jvm.Cond.fieldLink "TypeHouse$Page" (46 : Nat) "TypeHouse$Page" "total" "J") ∈ lw_all := lw_g (lw_at lw_m5 198 rfl) rfl
theorem q1621 : (Jvm.Cond.fieldLink "TypeHouse$PageBuilder" (52 : Nat) "TypeHouse$PageBuilder" "height" "I") ∈ lw_all := lw_g (lw_at lw_m5 236 rfl) rfl
theorem q1623 : (Jvm.Cond.fieldLink "TypeHouse$PageBuilder" (56 : Nat) "TypeHouse$PageBuilder" "top" "I") ∈ lw_all := lw_g (lw_at lw_m5 238 rfl) rfl
theorem q1625 : (Jvm.Cond.fieldLink "TypeHouse$PageBuilder" (60 : Nat) "TypeHouse$PageBuilder" "greatest" "I") ∈ lw_all := lw_g (lw_at lw_m6 0 rfl) rfl
theorem q2794 : (Jvm.Cond.instanceMethod ({ cls := "TypeHouse$Press", name := "endWord", desc := "()V" } : Jvm.MethodName)) ∈ lw_all := lw_g (lw_at lw_m10 209 rfl) rfl
theorem q2795 : (Jvm.Cond.code ({ cls := "TypeHouse$Press", name := "endWord", desc := "()V" } : Jvm.MethodName) prog_26_method_30_code (2 : Nat) (Option.none : Option Jvm.ClassFile.FieldType)) ∈ lw_all := lw_g (lw_at lw_m10 210 rfl) rfl
theorem q2847 : (Jvm.Cond.methodLink "TypeHouse$Press" (501 : Nat) ({ cls := "TypeHouse$Press", name := "findHyphens", desc := "()V" } : Jvm.MethodName)) ∈ lw_all := lw_g (lw_at lw_m11 22 rfl) rfl
theorem q3168 : (Jvm.Cond.methodLink "TypeHouse$Press" (504 : Nat) ({ cls := "TypeHouse$Press", name := "addHyphen", desc := "(II)V" } : Jvm.MethodName)) ∈ lw_all := lw_g (lw_at lw_m12 103 rfl) rfl
theorem q3192 : (Jvm.Cond.instanceMethod ({ cls := "TypeHouse$Press", name := "isVertical", desc := "()Z" } : Jvm.MethodName)) ∈ lw_all := lw_g (lw_at lw_m12 127 rfl) rfl
theorem q3193 : (Jvm.Cond.code ({ cls := "TypeHouse$Press", name := "isVertical", desc := "()Z" } : Jvm.MethodName) prog_26_method_5_code (1 : Nat) (Option.some Jvm.ClassFile.FieldType.boolean)) ∈ lw_all := lw_g (lw_at lw_m12 128 rfl) rfl
theorem q3203 : (Jvm.Cond.instanceMethod ({ cls := "TypeHouse$PageItems", name := "add", desc := "(IIIIII)V" } : Jvm.MethodName)) ∈ lw_all := lw_g (lw_at lw_m12 138 rfl) rfl
theorem q3204 : (Jvm.Cond.selects "TypeHouse$PageItems" ({ cls := "TypeHouse$PageItems", name := "add", desc := "(IIIIII)V" } : Jvm.MethodName) ({ cls := "TypeHouse$PageItems", name := "add", desc := "(IIIIII)V" } : Jvm.MethodName)) ∈ lw_all := lw_g (lw_at lw_m12 139 rfl) rfl
theorem q3205 : (Jvm.Cond.code ({ cls := "TypeHouse$PageItems", name := "add", desc := "(IIIIII)V" } : Jvm.MethodName) prog_22_method_3_code (7 : Nat) (Option.none : Option Jvm.ClassFile.FieldType)) ∈ lw_all := lw_g (lw_at lw_m12 140 rfl) rfl
theorem q3206 : (Jvm.Cond.methodLink "TypeHouse$PageItems" (41 : Nat) ({ cls := "TypeHouse$PageItems", name := "grownBytes", desc := "([B)[B" } : Jvm.MethodName)) ∈ lw_all := lw_g (lw_at lw_m12 141 rfl) rfl
theorem q3207 : (Jvm.Cond.static ({ cls := "TypeHouse$PageItems", name := "grownBytes", desc := "([B)[B" } : Jvm.MethodName)) ∈ lw_all := lw_g (lw_at lw_m12 142 rfl) rfl
theorem q3208 : (Jvm.Cond.code ({ cls := "TypeHouse$PageItems", name := "grownBytes", desc := "([B)[B" } : Jvm.MethodName) prog_22_method_2_code (2 : Nat) (Option.some (Jvm.ClassFile.FieldType.array Jvm.ClassFile.FieldType.byte))) ∈ lw_all := lw_g (lw_at lw_m12 143 rfl) rfl
theorem q3209 : (Jvm.Cond.methodLink "TypeHouse$PageItems" (31 : Nat) ({ cls := "java/lang/System", name := "arraycopy", desc := "(Ljava/lang/Object;ILjava/lang/Object;II)V" } : Jvm.MethodName)) ∈ lw_all := lw_g (lw_at lw_m12 144 rfl) rfl
theorem q3210 : (Jvm.Cond.methodLinkNest "TypeHouse$PageItems" (45 : Nat) ({ cls := "TypeHouse", name := "grown", desc := "([II)[I" } : Jvm.MethodName) "TypeHouse") ∈ lw_tbl := lw_at lw_m12 145 rfl
theorem q3211 : (Jvm.Cond.constant "TypeHouse$Press" (326 : Nat) (-1073741824 : Int32)) ∈ lw_all := lw_g (lw_at lw_m12 146 rfl) rfl
theorem q3218 : (Jvm.Cond.instanceMethod ({ cls := "TypeHouse$PageBuilder", name := "canStep", desc := "()Z" } : Jvm.MethodName)) ∈ lw_all := lw_g (lw_at lw_m12 153 rfl) rfl
theorem q3219 : (Jvm.Cond.selects "TypeHouse$PageBuilder" ({ cls := "TypeHouse$PageBuilder", name := "canStep", desc := "()Z" } : Jvm.MethodName) ({ cls := "TypeHouse$PageBuilder", name := "canStep", desc := "()Z" } : Jvm.MethodName)) ∈ lw_all := lw_g (lw_at lw_m12 154 rfl) rfl
theorem q3220 : (Jvm.Cond.code ({ cls := "TypeHouse$PageBuilder", name := "canStep", desc := "()Z" } : Jvm.MethodName) prog_21_method_9_code (1 : Nat) (Option.some Jvm.ClassFile.FieldType.boolean)) ∈ lw_all := lw_g (lw_at lw_m12 155 rfl) rfl
theorem q3221 : (Jvm.Cond.methodLink "TypeHouse$PageBuilder" (81 : Nat) ({ cls := "TypeHouse$PageItems", name := "kind", desc := "(I)I" } : Jvm.MethodName)) ∈ lw_all := lw_g (lw_at lw_m12 156 rfl) rfl
theorem q3222 : (Jvm.Cond.instanceMethod ({ cls := "TypeHouse$PageItems", name := "kind", desc := "(I)I" } : Jvm.MethodName)) ∈ lw_all := lw_g (lw_at lw_m12 157 rfl) rfl
theorem q3223 : (Jvm.Cond.selects "TypeHouse$PageItems" ({ cls := "TypeHouse$PageItems", name := "kind", desc := "(I)I" } : Jvm.MethodName) ({ cls := "TypeHouse$PageItems", name := "kind", desc := "(I)I" } : Jvm.MethodName)) ∈ lw_all := lw_g (lw_at lw_m12 158 rfl) rfl
theorem q3224 : (Jvm.Cond.code ({ cls := "TypeHouse$PageItems", name := "kind", desc := "(I)I" } : Jvm.MethodName) prog_22_method_4_code (2 : Nat) (Option.some Jvm.ClassFile.FieldType.int)) ∈ lw_all := lw_g (lw_at lw_m12 159 rfl) rfl
theorem q3226 : (Jvm.Cond.instanceMethod ({ cls := "TypeHouse$PageBuilder", name := "step", desc := "()Z" } : Jvm.MethodName)) ∈ lw_all := lw_g (lw_at lw_m12 161 rfl) rfl
theorem q3227 : (Jvm.Cond.selects "TypeHouse$PageBuilder" ({ cls := "TypeHouse$PageBuilder", name := "step", desc := "()Z" } : Jvm.MethodName) ({ cls := "TypeHouse$PageBuilder", name := "step", desc := "()Z" } : Jvm.MethodName)) ∈ lw_all := lw_g (lw_at lw_m12 162 rfl) rfl
theorem q3228 : (Jvm.Cond.code ({ cls := "TypeHouse$PageBuilder", name := "step", desc := "()Z" } : Jvm.MethodName) prog_21_method_8_code (3 : Nat) (Option.some Jvm.ClassFile.FieldType.boolean)) ∈ lw_all := lw_g (lw_at lw_m12 163 rfl) rfl
theorem q3229 : (Jvm.Cond.methodLink "TypeHouse$PageBuilder" (105 : Nat) ({ cls := "TypeHouse$PageBuilder", name := "open", desc := "(I)V" } : Jvm.MethodName)) ∈ lw_all := lw_g (lw_at lw_m12 164 rfl) rfl
theorem q3231 : (Jvm.Cond.instanceMethod ({ cls := "TypeHouse$PageBuilder", name := "open", desc := "(I)V" } : Jvm.MethodName)) ∈ lw_all := lw_g (lw_at lw_m12 166 rfl) rfl
theorem q3232 : (Jvm.Cond.code ({ cls := "TypeHouse$PageBuilder", name := "open", desc := "(I)V" } : Jvm.MethodName) prog_21_method_3_code (2 : Nat) (Option.none : Option Jvm.ClassFile.FieldType)) ∈ lw_all := lw_g (lw_at lw_m12 167 rfl) rfl
theorem q3233 : (Jvm.Cond.methodLink "TypeHouse$PageBuilder" (64 : Nat) ({ cls := "TypeHouse$Page", name := "crown", desc := "(LTypeHouse$PageItems;LTypeHouse$Sums;)V" } : Jvm.MethodName)) ∈ lw_all := lw_g (lw_at lw_m12 168 rfl) rfl
theorem q3234 : (Jvm.Cond.instanceMethod ({ cls := "TypeHouse$Page", name := "crown", desc := "(LTypeHouse$PageItems;LTypeHouse$Sums;)V" } : Jvm.MethodName)) ∈ lw_all := lw_g (lw_at lw_m12 169 rfl) rfl
theorem q3235 : (Jvm.Cond.selects "TypeHouse$Page" ({ cls := "TypeHouse$Page", name := "crown", desc := "(LTypeHouse$PageItems;LTypeHouse$Sums;)V" } : Jvm.MethodName) ({ cls := "TypeHouse$Page", name := "crown", desc := "(LTypeHouse$PageItems;LTypeHouse$Sums;)V" } : Jvm.MethodName)) ∈ lw_all := lw_g (lw_at lw_m12 170 rfl) rfl
theorem q3236 : (Jvm.Cond.code ({ cls := "TypeHouse$Page", name := "crown", desc := "(LTypeHouse$PageItems;LTypeHouse$Sums;)V" } : Jvm.MethodName) prog_20_method_6_code (3 : Nat) (Option.none : Option Jvm.ClassFile.FieldType)) ∈ lw_all := lw_g (lw_at lw_m12 171 rfl) rfl
theorem q3237 : (Jvm.Cond.methodLink "TypeHouse$Page" (73 : Nat) ({ cls := "TypeHouse$Sums", name := "clear", desc := "()V" } : Jvm.MethodName)) ∈ lw_all := lw_g (lw_at lw_m12 172 rfl) rfl
theorem q3238 : (Jvm.Cond.methodLink "TypeHouse$Page" (85 : Nat) ({ cls := "java/lang/Math", name := "max", desc := "(JJ)J" } : Jvm.MethodName)) ∈ lw_all := lw_g (lw_at lw_m12 173 rfl) rfl
theorem q3239 : (Jvm.Cond.static ({ cls := "java/lang/Math", name := "max", desc := "(JJ)J" } : Jvm.MethodName)) ∈ lw_all := lw_g (lw_at lw_m12 174 rfl) rfl
theorem q3240 : (Jvm.Cond.code ({ cls := "java/lang/Math", name := "max", desc := "(JJ)J" } : Jvm.MethodName) prog_49_method_66_code (4 : Nat) (Option.some Jvm.ClassFile.FieldType.long)) ∈ lw_all := lw_g (lw_at lw_m12 175 rfl) rfl
theorem q3241 : (Jvm.Cond.methodLink "TypeHouse$PageBuilder" (109 : Nat) ({ cls := "TypeHouse$Sums", name := "add", desc := "(LTypeHouse$PageItems;II)V" } : Jvm.MethodName)) ∈ lw_all := lw_g (lw_at lw_m12 176 rfl) rfl
theorem q3242 : (Jvm.Cond.instanceMethod ({ cls := "TypeHouse$Sums", name := "add", desc := "(LTypeHouse$PageItems;II)V" } : Jvm.MethodName)) ∈ lw_all := lw_g (lw_at lw_m12 177 rfl) rfl
theorem q3243 : (Jvm.Cond.selects "TypeHouse$Sums" ({ cls := "TypeHouse$Sums", name := "add", desc := "(LTypeHouse$PageItems;II)V" } : Jvm.MethodName) ({ cls := "TypeHouse$Sums", name := "add", desc := "(LTypeHouse$PageItems;II)V" } : Jvm.MethodName)) ∈ lw_all := lw_g (lw_at lw_m12 178 rfl) rfl
theorem q3244 : (Jvm.Cond.code ({ cls := "TypeHouse$Sums", name := "add", desc := "(LTypeHouse$PageItems;II)V" } : Jvm.MethodName) prog_30_method_4_code (4 : Nat) (Option.none : Option Jvm.ClassFile.FieldType)) ∈ lw_all := lw_g (lw_at lw_m12 179 rfl) rfl
theorem q3245 : (Jvm.Cond.methodLink "TypeHouse$Sums" (44 : Nat) ({ cls := "TypeHouse$Sums", name := "space", desc := "(J)V" } : Jvm.MethodName)) ∈ lw_all := lw_g (lw_at lw_m12 180 rfl) rfl
theorem q3247 : (Jvm.Cond.instanceMethod ({ cls := "TypeHouse$Sums", name := "space", desc := "(J)V" } : Jvm.MethodName)) ∈ lw_all := lw_g (lw_at lw_m12 182 rfl) rfl
theorem q3248 : (Jvm.Cond.code ({ cls := "TypeHouse$Sums", name := "space", desc := "(J)V" } : Jvm.MethodName) prog_30_method_5_code (3 : Nat) (Option.none : Option Jvm.ClassFile.FieldType)) ∈ lw_all := lw_g (lw_at lw_m12 183 rfl) rfl
theorem q3249 : (Jvm.Cond.methodLink "TypeHouse$PageBuilder" (113 : Nat) ({ cls := "TypeHouse$PageBuilder", name := "penalty", desc := "(I)I" } : Jvm.MethodName)) ∈ lw_all := lw_g (lw_at lw_m12 184 rfl) rfl
theorem q3251 : (Jvm.Cond.instanceMethod ({ cls := "TypeHouse$PageBuilder", name := "penalty", desc := "(I)I" } : Jvm.MethodName)) ∈ lw_all := lw_g (lw_at lw_m12 186 rfl) rfl
theorem q3252 : (Jvm.Cond.code ({ cls := "TypeHouse$PageBuilder", name := "penalty", desc := "(I)I" } : Jvm.MethodName) prog_21_method_6_code (3 : Nat) (Option.some Jvm.ClassFile.FieldType.int)) ∈ lw_all := lw_g (lw_at lw_m12 187 rfl) rfl
theorem q3253 : (Jvm.Cond.methodLink "TypeHouse$PageBuilder" (116 : Nat) ({ cls := "TypeHouse$PageBuilder", name := "ends", desc := "(II)Z" } : Jvm.MethodName)) ∈ lw_all := lw_g (lw_at lw_m12 188 rfl) rfl
theorem q3255 : (Jvm.Cond.instanceMethod ({ cls := "TypeHouse$PageBuilder", name := "ends", desc := "(II)Z" } : Jvm.MethodName)) ∈ lw_all := lw_g (lw_at lw_m12 190 rfl) rfl
theorem q3256 : (Jvm.Cond.code ({ cls := "TypeHouse$PageBuilder", name := "ends", desc := "(II)Z" } : Jvm.MethodName) prog_21_method_5_code (4 : Nat) (Option.some Jvm.ClassFile.FieldType.boolean)) ∈ lw_all := lw_g (lw_at lw_m12 191 rfl) rfl
theorem q3257 : (Jvm.Cond.methodLink "TypeHouse$PageBuilder" (73 : Nat) ({ cls := "TypeHouse$PageBuilder", name := "cost", desc := "(I)I" } : Jvm.MethodName)) ∈ lw_all := lw_g (lw_at lw_m12 192 rfl) rfl
theorem q3259 : (Jvm.Cond.instanceMethod ({ cls := "TypeHouse$PageBuilder", name := "cost", desc := "(I)I" } : Jvm.MethodName)) ∈ lw_all := lw_g (lw_at lw_m12 194 rfl) rfl
theorem q3260 : (Jvm.Cond.code ({ cls := "TypeHouse$PageBuilder", name := "cost", desc := "(I)I" } : Jvm.MethodName) prog_21_method_4_code (3 : Nat) (Option.some Jvm.ClassFile.FieldType.int)) ∈ lw_all := lw_g (lw_at lw_m12 195 rfl) rfl
theorem q3261 : (Jvm.Cond.methodLink "TypeHouse$PageBuilder" (68 : Nat) ({ cls := "TypeHouse$Sums", name := "badness", desc := "(J)I" } : Jvm.MethodName)) ∈ lw_all := lw_g (lw_at lw_m12 196 rfl) rfl
theorem q3262 : (Jvm.Cond.instanceMethod ({ cls := "TypeHouse$Sums", name := "badness", desc := "(J)I" } : Jvm.MethodName)) ∈ lw_all := lw_g (lw_at lw_m12 197 rfl) rfl
theorem q3263 : (Jvm.Cond.selects "TypeHouse$Sums" ({ cls := "TypeHouse$Sums", name := "badness", desc := "(J)I" } : Jvm.MethodName) ({ cls := "TypeHouse$Sums", name := "badness", desc := "(J)I" } : Jvm.MethodName)) ∈ lw_all := lw_g (lw_at lw_m12 198 rfl) rfl
theorem q3264 : (Jvm.Cond.code ({ cls := "TypeHouse$Sums", name := "badness", desc := "(J)I" } : Jvm.MethodName) prog_30_method_8_code (5 : Nat) (Option.some Jvm.ClassFile.FieldType.int)) ∈ lw_all := lw_g (lw_at lw_m12 199 rfl) rfl
theorem q3265 : (Jvm.Cond.methodLink "TypeHouse$Sums" (60 : Nat) ({ cls := "TypeHouse$Sums", name := "order", desc := "()I" } : Jvm.MethodName)) ∈ lw_all := lw_g (lw_at lw_m12 200 rfl) rfl
theorem q3266 : (Jvm.Cond.instanceMethod ({ cls := "TypeHouse$Sums", name := "order", desc := "()I" } : Jvm.MethodName)) ∈ lw_all := lw_g (lw_at lw_m12 201 rfl) rfl
theorem q3267 : (Jvm.Cond.selects "TypeHouse$Sums" ({ cls := "TypeHouse$Sums", name := "order", desc := "()I" } : Jvm.MethodName) ({ cls := "TypeHouse$Sums", name := "order", desc := "()I" } : Jvm.MethodName)) ∈ lw_all := lw_g (lw_at lw_m12 202 rfl) rfl
theorem q3268 : (Jvm.Cond.code ({ cls := "TypeHouse$Sums", name := "order", desc := "()I" } : Jvm.MethodName) prog_30_method_6_code (2 : Nat) (Option.some Jvm.ClassFile.FieldType.int)) ∈ lw_all := lw_g (lw_at lw_m12 203 rfl) rfl
theorem q3269 : (Jvm.Cond.methodLink "TypeHouse$Sums" (64 : Nat) ({ cls := "TypeHouse$Sums", name := "badnessOf", desc := "(JJ)I" } : Jvm.MethodName)) ∈ lw_all := lw_g (lw_at lw_m12 204 rfl) rfl
theorem q3270 : (Jvm.Cond.static ({ cls := "TypeHouse$Sums", name := "badnessOf", desc := "(JJ)I" } : Jvm.MethodName)) ∈ lw_all := lw_g (lw_at lw_m12 205 rfl) rfl
theorem q3271 : (Jvm.Cond.code ({ cls := "TypeHouse$Sums", name := "badnessOf", desc := "(JJ)I" } : Jvm.MethodName) prog_30_method_7_code (6 : Nat) (Option.some Jvm.ClassFile.FieldType.int)) ∈ lw_all := lw_g (lw_at lw_m12 206 rfl) rfl
theorem q3272 : (Jvm.Cond.constantLong "TypeHouse$Sums" (48 : Nat) (7230584 : Int64)) ∈ lw_all := lw_g (lw_at lw_m12 207 rfl) rfl
theorem q3273 : (Jvm.Cond.constantLong "TypeHouse$Sums" (50 : Nat) (297 : Int64)) ∈ lw_all := lw_g (lw_at lw_m12 208 rfl) rfl
theorem q3274 : (Jvm.Cond.constantLong "TypeHouse$Sums" (52 : Nat) (1663497 : Int64)) ∈ lw_all := lw_g (lw_at lw_m12 209 rfl) rfl
theorem q3275 : (Jvm.Cond.constantLong "TypeHouse$Sums" (54 : Nat) (1290 : Int64)) ∈ lw_all := lw_g (lw_at lw_m12 210 rfl) rfl
theorem q3276 : (Jvm.Cond.constantLong "TypeHouse$Sums" (56 : Nat) (131072 : Int64)) ∈ lw_all := lw_g (lw_at lw_m12 211 rfl) rfl
theorem q3277 : (Jvm.Cond.constantLong "TypeHouse$Sums" (58 : Nat) (262144 : Int64)) ∈ lw_all := lw_g (lw_at lw_m12 212 rfl) rfl
theorem q3278 : (Jvm.Cond.constant "TypeHouse$Sums" (68 : Nat) (1073741823 : Int32)) ∈ lw_all := lw_g (lw_at lw_m12 213 rfl) rfl
theorem q3279 : (Jvm.Cond.constant "TypeHouse$PageBuilder" (72 : Nat) (100000 : Int32)) ∈ lw_all := lw_g (lw_at lw_m12 214 rfl) rfl
theorem q3280 : (Jvm.Cond.methodLink "TypeHouse$PageBuilder" (77 : Nat) ({ cls := "TypeHouse$Sums", name := "become", desc := "(LTypeHouse$Sums;)V" } : Jvm.MethodName)) ∈ lw_all := lw_g (lw_at lw_m12 215 rfl) rfl
theorem q3281 : (Jvm.Cond.instanceMethod ({ cls := "TypeHouse$Sums", name := "become", desc := "(LTypeHouse$Sums;)V" } : Jvm.MethodName)) ∈ lw_all := lw_g (lw_at lw_m12 216 rfl) rfl
theorem q3282 : (Jvm.Cond.selects "TypeHouse$Sums" ({ cls := "TypeHouse$Sums", name := "become", desc := "(LTypeHouse$Sums;)V" } : Jvm.MethodName) ({ cls := "TypeHouse$Sums", name := "become", desc := "(LTypeHouse$Sums;)V" } : Jvm.MethodName)) ∈ lw_all := lw_g (lw_at lw_m12 217 rfl) rfl
theorem q3283 : (Jvm.Cond.code ({ cls := "TypeHouse$Sums", name := "become", desc := "(LTypeHouse$Sums;)V" } : Jvm.MethodName) prog_30_method_3_code (3 : Nat) (Option.none : Option Jvm.ClassFile.FieldType)) ∈ lw_all := lw_g (lw_at lw_m12 218 rfl) rfl
theorem q3284 : (Jvm.Cond.methodLink "TypeHouse$PageBuilder" (120 : Nat) ({ cls := "TypeHouse$PageBuilder", name := "finish", desc := "(I)V" } : Jvm.MethodName)) ∈ lw_all := lw_g (lw_at lw_m12 219 rfl) rfl
theorem q3286 : (Jvm.Cond.instanceMethod ({ cls := "TypeHouse$PageBuilder", name := "finish", desc := "(I)V" } : Jvm.MethodName)) ∈ lw_all := lw_g (lw_at lw_m12 221 rfl) rfl
theorem q3287 : (Jvm.Cond.code ({ cls := "TypeHouse$PageBuilder", name := "finish", desc := "(I)V" } : Jvm.MethodName) prog_21_method_7_code (3 : Nat) (Option.none : Option Jvm.ClassFile.FieldType)) ∈ lw_all := lw_g (lw_at lw_m12 222 rfl) rfl
theorem q3288 : (Jvm.Cond.methodLink "TypeHouse$PageBuilder" (99 : Nat) ({ cls := "TypeHouse$Page", name := "set", desc := "()V" } : Jvm.MethodName)) ∈ lw_all := lw_g (lw_at lw_m12 223 rfl) rfl
theorem q3289 : (Jvm.Cond.instanceMethod ({ cls := "TypeHouse$Page", name := "set", desc := "()V" } : Jvm.MethodName)) ∈ lw_all := lw_g (lw_at lw_m12 224 rfl) rfl
theorem q3290 : (Jvm.Cond.selects "TypeHouse$Page" ({ cls := "TypeHouse$Page", name := "set", desc := "()V" } : Jvm.MethodName) ({ cls := "TypeHouse$Page", name := "set", desc := "()V" } : Jvm.MethodName)) ∈ lw_all := lw_g (lw_at lw_m12 225 rfl) rfl
theorem q3291 : (Jvm.Cond.code ({ cls := "TypeHouse$Page", name := "set", desc := "()V" } : Jvm.MethodName) prog_20_method_2_code (1 : Nat) (Option.none : Option Jvm.ClassFile.FieldType)) ∈ lw_all := lw_g (lw_at lw_m12 226 rfl) rfl
theorem q3292 : (Jvm.Cond.methodLink "TypeHouse$Page" (27 : Nat) ({ cls := "TypeHouse$Sums", name := "badness", desc := "(J)I" } : Jvm.MethodName)) ∈ lw_all := lw_g (lw_at lw_m12 227 rfl) rfl
theorem q3293 : (Jvm.Cond.methodLink "TypeHouse$Page" (33 : Nat) ({ cls := "TypeHouse$Sums", name := "order", desc := "()I" } : Jvm.MethodName)) ∈ lw_all := lw_g (lw_at lw_m12 228 rfl) rfl
theorem q3300 : (Jvm.Cond.instanceMethod ({ cls := "TypeHouse$Press", name := "wantFew", desc := "(LTypeHouse$Page;)V" } : Jvm.MethodName)) ∈ lw_all := lw_g (lw_at lw_m12 235 rfl) rfl
theorem q3301 : (Jvm.Cond.code ({ cls := "TypeHouse$Press", name := "wantFew", desc := "(LTypeHouse$Page;)V" } : Jvm.MethodName) prog_26_method_39_code (5 : Nat) (Option.none : Option Jvm.ClassFile.FieldType)) ∈ lw_all := lw_g (lw_at lw_m12 236 rfl) rfl
theorem q3302 : (Jvm.Cond.constantLong "TypeHouse$Press" (609 : Nat) (20000 : Int64)) ∈ lw_all := lw_g (lw_at lw_m12 237 rfl) rfl
theorem q3309 : (Jvm.Cond.instanceMethod ({ cls := "TypeHouse$Press", name := "widthOf", desc := "(LTypeHouse$Page;)I" } : Jvm.MethodName)) ∈ lw_all := lw_g (lw_at lw_m13 4 rfl) rfl
theorem q3310 : (Jvm.Cond.code ({ cls := "TypeHouse$Press", name := "widthOf", desc := "(LTypeHouse$Page;)I" } : Jvm.MethodName) prog_26_method_38_code (7 : Nat) (Option.some Jvm.ClassFile.FieldType.int)) ∈ lw_all := lw_g (lw_at lw_m13 5 rfl) rfl
theorem q3311 : (Jvm.Cond.methodLink "TypeHouse$Press" (346 : Nat) ({ cls := "java/lang/Math", name := "max", desc := "(JJ)J" } : Jvm.MethodName)) ∈ lw_all := lw_g (lw_at lw_m13 6 rfl) rfl
theorem q3312 : (Jvm.Cond.constantLong "TypeHouse$Press" (604 : Nat) (2147483647 : Int64)) ∈ lw_all := lw_g (lw_at lw_m13 7 rfl) rfl
theorem q3313 : (Jvm.Cond.methodLink "TypeHouse$Press" (340 : Nat) ({ cls := "java/lang/Math", name := "min", desc := "(JJ)J" } : Jvm.MethodName)) ∈ lw_all := lw_g (lw_at lw_m13 8 rfl) rfl
theorem q3314 : (Jvm.Cond.static ({ cls := "java/lang/Math", name := "min", desc := "(JJ)J" } : Jvm.MethodName)) ∈ lw_all := lw_g (lw_at lw_m13 9 rfl) rfl
theorem q3315 : (Jvm.Cond.code ({ cls := "java/lang/Math", name := "min", desc := "(JJ)J" } : Jvm.MethodName) prog_49_method_70_code (4 : Nat) (Option.some Jvm.ClassFile.FieldType.long)) ∈ lw_all := lw_g (lw_at lw_m13 10 rfl) rfl
theorem q3318 : (Jvm.Cond.instanceMethod ({ cls := "TypeHouse$Page", name := "share", desc := "(LTypeHouse$Sums;)J" } : Jvm.MethodName)) ∈ lw_all := lw_g (lw_at lw_m13 13 rfl) rfl
theorem q3319 : (Jvm.Cond.selects "TypeHouse$Page" ({ cls := "TypeHouse$Page", name := "share", desc := "(LTypeHouse$Sums;)J" } : Jvm.MethodName) ({ cls := "TypeHouse$Page", name := "share", desc := "(LTypeHouse$Sums;)J" } : Jvm.MethodName)) ∈ lw_all := lw_g (lw_at lw_m13 14 rfl) rfl
theorem q3320 : (Jvm.Cond.code ({ cls := "TypeHouse$Page", name := "share", desc := "(LTypeHouse$Sums;)J" } : Jvm.MethodName) prog_20_method_5_code (2 : Nat) (Option.some Jvm.ClassFile.FieldType.long)) ∈ lw_all := lw_g (lw_at lw_m13 15 rfl) rfl
theorem q3321 : (Jvm.Cond.methodLink "TypeHouse$Page" (63 : Nat) ({ cls := "TypeHouse$Page", name := "nearest", desc := "(JJJ)J" } : Jvm.MethodName)) ∈ lw_all := lw_g (lw_at lw_m13 16 rfl) rfl
theorem q3322 : (Jvm.Cond.static ({ cls := "TypeHouse$Page", name := "nearest", desc := "(JJJ)J" } : Jvm.MethodName)) ∈ lw_all := lw_g (lw_at lw_m13 17 rfl) rfl
theorem q3323 : (Jvm.Cond.code ({ cls := "TypeHouse$Page", name := "nearest", desc := "(JJJ)J" } : Jvm.MethodName) prog_20_method_4_code (11 : Nat) (Option.some Jvm.ClassFile.FieldType.long)) ∈ lw_all := lw_g (lw_at lw_m13 18 rfl) rfl
theorem q3324 : (Jvm.Cond.constantLong "TypeHouse$Page" (61 : Nat) (2 : Int64)) ∈ lw_all := lw_g (lw_at lw_m13 19 rfl) rfl
theorem q3325 : (Jvm.Cond.methodLink "TypeHouse$Page" (67 : Nat) ({ cls := "java/lang/Math", name := "min", desc := "(JJ)J" } : Jvm.MethodName)) ∈ lw_all := lw_g (lw_at lw_m13 20 rfl) rfl
theorem q3327 : (Jvm.Cond.instanceMethod ({ cls := "TypeHouse$Layout", name := "lay", desc := "(LTypeHouse$Box;JJ)Z" } : Jvm.MethodName)) ∈ lw_all := lw_g (lw_at lw_m13 22 rfl) rfl
theorem q3328 : (Jvm.Cond.selects "TypeHouse$Layout" ({ cls := "TypeHouse$Layout", name := "lay", desc := "(LTypeHouse$Box;JJ)Z" } : Jvm.MethodName) ({ cls := "TypeHouse$Layout", name := "lay", desc := "(LTypeHouse$Box;JJ)Z" } : Jvm.MethodName)) ∈ lw_all := lw_g (lw_at lw_m13 23 rfl) rfl
theorem q3329 : (Jvm.Cond.code ({ cls := "TypeHouse$Layout", name := "lay", desc := "(LTypeHouse$Box;JJ)Z" } : Jvm.MethodName) prog_11_method_7_code (8 : Nat) (Option.some Jvm.ClassFile.FieldType.boolean)) ∈ lw_all := lw_g (lw_at lw_m13 24 rfl) rfl
theorem q3330 : (Jvm.Cond.methodLink "TypeHouse$Layout" (87 : Nat) ({ cls := "TypeHouse$Layout", name := "enter", desc := "(LTypeHouse$Box;JJ)V" } : Jvm.MethodName)) ∈ lw_all := lw_g (lw_at lw_m13 25 rfl) rfl
theorem q3332 : (Jvm.Cond.instanceMethod ({ cls := "TypeHouse$Layout", name := "enter", desc := "(LTypeHouse$Box;JJ)V" } : Jvm.MethodName)) ∈ lw_all := lw_g (lw_at lw_m13 27 rfl) rfl
theorem q3333 : (Jvm.Cond.code ({ cls := "TypeHouse$Layout", name := "enter", desc := "(LTypeHouse$Box;JJ)V" } : Jvm.MethodName) prog_11_method_2_code (6 : Nat) (Option.none : Option Jvm.ClassFile.FieldType)) ∈ lw_all := lw_g (lw_at lw_m13 28 rfl) rfl
theorem q3334 : (Jvm.Cond.methodLink "TypeHouse$Layout" (94 : Nat) ({ cls := "TypeHouse$Layout", name := "item", desc := "(I)Z" } : Jvm.MethodName)) ∈ lw_all := lw_g (lw_at lw_m13 29 rfl) rfl
theorem q3336 : (Jvm.Cond.instanceMethod ({ cls := "TypeHouse$Layout", name := "item", desc := "(I)Z" } : Jvm.MethodName)) ∈ lw_all := lw_g (lw_at lw_m13 31 rfl) rfl
theorem q3337 : (Jvm.Cond.code ({ cls := "TypeHouse$Layout", name := "item", desc := "(I)Z" } : Jvm.MethodName) prog_11_method_5_code (9 : Nat) (Option.some Jvm.ClassFile.FieldType.boolean)) ∈ lw_all := lw_g (lw_at lw_m13 32 rfl) rfl
theorem q3338 : (Jvm.Cond.methodLink "TypeHouse$Layout" (76 : Nat) ({ cls := "TypeHouse$Pool", name := "kind", desc := "(I)I" } : Jvm.MethodName)) ∈ lw_all := lw_g (lw_at lw_m13 33 rfl) rfl
theorem q3339 : (Jvm.Cond.instanceMethod ({ cls := "TypeHouse$Pool", name := "kind", desc := "(I)I" } : Jvm.MethodName)) ∈ lw_all := lw_g (lw_at lw_m13 34 rfl) rfl
theorem q3340 : (Jvm.Cond.selects "TypeHouse$Pool" ({ cls := "TypeHouse$Pool", name := "kind", desc := "(I)I" } : Jvm.MethodName) ({ cls := "TypeHouse$Pool", name := "kind", desc := "(I)I" } : Jvm.MethodName)) ∈ lw_all := lw_g (lw_at lw_m13 35 rfl) rfl
theorem q3341 : (Jvm.Cond.code ({ cls := "TypeHouse$Pool", name := "kind", desc := "(I)I" } : Jvm.MethodName) prog_25_method_4_code (2 : Nat) (Option.some Jvm.ClassFile.FieldType.int)) ∈ lw_all := lw_g (lw_at lw_m13 36 rfl) rfl
theorem q3342 : (Jvm.Cond.methodLink "TypeHouse$Layout" (80 : Nat) ({ cls := "TypeHouse$Pool", name := "of", desc := "(II)I" } : Jvm.MethodName)) ∈ lw_all := lw_g (lw_at lw_m13 37 rfl) rfl
theorem q3343 : (Jvm.Cond.instanceMethod ({ cls := "TypeHouse$Pool", name := "of", desc := "(II)I" } : Jvm.MethodName)) ∈ lw_all := lw_g (lw_at lw_m13 38 rfl) rfl
theorem q3344 : (Jvm.Cond.selects "TypeHouse$Pool" ({ cls := "TypeHouse$Pool", name := "of", desc := "(II)I" } : Jvm.MethodName) ({ cls := "TypeHouse$Pool", name := "of", desc := "(II)I" } : Jvm.MethodName)) ∈ lw_all := lw_g (lw_at lw_m13 39 rfl) rfl
theorem q3345 : (Jvm.Cond.code ({ cls := "TypeHouse$Pool", name := "of", desc := "(II)I" } : Jvm.MethodName) prog_25_method_5_code (3 : Nat) (Option.some Jvm.ClassFile.FieldType.int)) ∈ lw_all := lw_g (lw_at lw_m13 40 rfl) rfl
theorem q3346 : (Jvm.Cond.methodLink "TypeHouse$Layout" (69 : Nat) ({ cls := "TypeHouse$Layout", name := "mark", desc := "(IJJIII)Z" } : Jvm.MethodName)) ∈ lw_all := lw_g (lw_at lw_m13 41 rfl) rfl
theorem q3348 : (Jvm.Cond.instanceMethod ({ cls := "TypeHouse$Layout", name := "mark", desc := "(IJJIII)Z" } : Jvm.MethodName)) ∈ lw_all := lw_g (lw_at lw_m13 43 rfl) rfl
theorem q3349 : (Jvm.Cond.code ({ cls := "TypeHouse$Layout", name := "mark", desc := "(IJJIII)Z" } : Jvm.MethodName) prog_11_method_3_code (10 : Nat) (Option.some Jvm.ClassFile.FieldType.boolean)) ∈ lw_all := lw_g (lw_at lw_m13 44 rfl) rfl
theorem q3350 : (Jvm.Cond.methodLink "TypeHouse$Layout" (83 : Nat) ({ cls := "TypeHouse$Layout", name := "rule", desc := "(LTypeHouse$Box;IJJ)Z" } : Jvm.MethodName)) ∈ lw_all := lw_g (lw_at lw_m13 45 rfl) rfl
theorem q3352 : (Jvm.Cond.instanceMethod ({ cls := "TypeHouse$Layout", name := "rule", desc := "(LTypeHouse$Box;IJJ)Z" } : Jvm.MethodName)) ∈ lw_all := lw_g (lw_at lw_m13 47 rfl) rfl
theorem q3353 : (Jvm.Cond.code ({ cls := "TypeHouse$Layout", name := "rule", desc := "(LTypeHouse$Box;IJJ)Z" } : Jvm.MethodName) prog_11_method_4_code (10 : Nat) (Option.some Jvm.ClassFile.FieldType.boolean)) ∈ lw_all := lw_g (lw_at lw_m13 48 rfl) rfl
theorem q3354 : (Jvm.Cond.methodLink "TypeHouse$Layout" (48 : Nat) ({ cls := "TypeHouse$Pool", name := "isRunning", desc := "(II)Z" } : Jvm.MethodName)) ∈ lw_all := lw_g (lw_at lw_m13 49 rfl) rfl
theorem q3355 : (Jvm.Cond.instanceMethod ({ cls := "TypeHouse$Pool", name := "isRunning", desc := "(II)Z" } : Jvm.MethodName)) ∈ lw_all := lw_g (lw_at lw_m13 50 rfl) rfl
theorem q3356 : (Jvm.Cond.selects "TypeHouse$Pool" ({ cls := "TypeHouse$Pool", name := "isRunning", desc := "(II)Z" } : Jvm.MethodName) ({ cls := "TypeHouse$Pool", name := "isRunning", desc := "(II)Z" } : Jvm.MethodName)) ∈ lw_all := lw_g (lw_at lw_m13 51 rfl) rfl
theorem q3357 : (Jvm.Cond.code ({ cls := "TypeHouse$Pool", name := "isRunning", desc := "(II)Z" } : Jvm.MethodName) prog_25_method_7_code (3 : Nat) (Option.some Jvm.ClassFile.FieldType.boolean)) ∈ lw_all := lw_g (lw_at lw_m13 52 rfl) rfl
theorem q3358 : (Jvm.Cond.methodLink "TypeHouse$Pool" (35 : Nat) ({ cls := "TypeHouse$Pool", name := "of", desc := "(II)I" } : Jvm.MethodName)) ∈ lw_all := lw_g (lw_at lw_m13 53 rfl) rfl
theorem q3359 : (Jvm.Cond.constant "TypeHouse$Pool" (39 : Nat) (-1073741824 : Int32)) ∈ lw_all := lw_g (lw_at lw_m13 54 rfl) rfl
theorem q3360 : (Jvm.Cond.methodLink "TypeHouse$Layout" (61 : Nat) ({ cls := "TypeHouse$Pool", name := "solid", desc := "(II)I" } : Jvm.MethodName)) ∈ lw_all := lw_g (lw_at lw_m13 55 rfl) rfl
theorem q3361 : (Jvm.Cond.instanceMethod ({ cls := "TypeHouse$Pool", name := "solid", desc := "(II)I" } : Jvm.MethodName)) ∈ lw_all := lw_g (lw_at lw_m13 56 rfl) rfl
theorem q3362 : (Jvm.Cond.selects "TypeHouse$Pool" ({ cls := "TypeHouse$Pool", name := "solid", desc := "(II)I" } : Jvm.MethodName) ({ cls := "TypeHouse$Pool", name := "solid", desc := "(II)I" } : Jvm.MethodName)) ∈ lw_all := lw_g (lw_at lw_m13 57 rfl) rfl
theorem q3363 : (Jvm.Cond.code ({ cls := "TypeHouse$Pool", name := "solid", desc := "(II)I" } : Jvm.MethodName) prog_25_method_6_code (4 : Nat) (Option.some Jvm.ClassFile.FieldType.int)) ∈ lw_all := lw_g (lw_at lw_m13 58 rfl) rfl
theorem q3365 : (Jvm.Cond.instanceMethod ({ cls := "TypeHouse$Layout", name := "line", desc := "(JJIII)Z" } : Jvm.MethodName)) ∈ lw_all := lw_g (lw_at lw_m13 60 rfl) rfl
theorem q3366 : (Jvm.Cond.selects "TypeHouse$Layout" ({ cls := "TypeHouse$Layout", name := "line", desc := "(JJIII)Z" } : Jvm.MethodName) ({ cls := "TypeHouse$Layout", name := "line", desc := "(JJIII)Z" } : Jvm.MethodName)) ∈ lw_all := lw_g (lw_at lw_m13 61 rfl) rfl
theorem q3367 : (Jvm.Cond.code ({ cls := "TypeHouse$Layout", name := "line", desc := "(JJIII)Z" } : Jvm.MethodName) prog_11_method_6_code (8 : Nat) (Option.some Jvm.ClassFile.FieldType.boolean)) ∈ lw_all := lw_g (lw_at lw_m13 62 rfl) rfl
theorem q3503 : (Jvm.Cond.fieldLinkNest "TypeHouse$Layout" (42 : Nat) "TypeHouse$Box" "from" "I" "TypeHouse") ∈ lw_tbl := lw_at lw_m13 198 rfl
theorem q3508 : (Jvm.Cond.fieldLinkNest "TypeHouse$Layout" (91 : Nat) "TypeHouse$Box" "to" "I" "TypeHouse") ∈ lw_tbl := lw_at lw_m13 203 rfl
theorem q3511 : (Jvm.Cond.fieldLinkNest "TypeHouse$Layout" (54 : Nat) "TypeHouse$Box" "below" "Z" "TypeHouse") ∈ lw_tbl := lw_at lw_m13 206 rfl
theorem q3515 : (Jvm.Cond.fieldLinkNest "TypeHouse$Layout" (58 : Nat) "TypeHouse$Box" "width" "I" "TypeHouse") ∈ lw_tbl := lw_at lw_m13 210 rfl
theorem q3517 : (Jvm.Cond.fieldLinkNest "TypeHouse$Press" (519 : Nat) "TypeHouse$Box" "width" "I" "TypeHouse") ∈ lw_tbl := lw_at lw_m13 212 rfl
theorem q3519 : (Jvm.Cond.fieldLinkNest "TypeHouse$Layout" (65 : Nat) "TypeHouse$Box" "height" "I" "TypeHouse") ∈ lw_tbl := lw_at lw_m13 214 rfl
theorem q3523 : (Jvm.Cond.fieldLinkNest "TypeHouse$Layout" (68 : Nat) "TypeHouse$Box" "depth" "I" "TypeHouse") ∈ lw_tbl := lw_at lw_m13 218 rfl
theorem q3542 : (Jvm.Cond.fieldLinkNest "TypeHouse$Press" (606 : Nat) "TypeHouse$Box" "all" "I" "TypeHouse") ∈ lw_tbl := lw_at lw_m13 237 rfl
abbrev cX3_endWord : ByteArray := prog_26_method_30_code
def yX3_endWord : MethodName := ⟨RX3, "endWord", "()V"⟩
def YX3_endWord : eY := (yX3_endWord, cX3_endWord, 2, none, [])
theorem mX3_endWord : e_mv YX3_endWord RX3 0 := ⟨q2794, qs99, q2795, by decide, by decide +kernel, (e_sig (by decide +kernel))⟩
theorem dX3_endWord_0 : decode cX3_endWord 0 = .ok (.aload_n 0, 1) := dc_42 (by decide +kernel)
theorem dX3_endWord_1 : decode cX3_endWord 1 = .ok (.getfield 219, 3) := dc_180 (a := 0) (b := 219) (n := 219) (by decide +kernel)
theorem dX3_endWord_4 : decode cX3_endWord 4 = .ok (.ifCond .ne 4, 3) := dc_154 (a := 0) (b := 4) (v := 4) (by decide +kernel)
theorem dX3_endWord_7 : decode cX3_endWord 7 = .ok (.return_, 1) := dc_177 (by decide +kernel)
theorem dX3_endWord_8 : decode cX3_endWord 8 = .ok (.aload_n 0, 1) := dc_42 (by decide +kernel)
theorem dX3_endWord_9 : decode cX3_endWord 9 = .ok (.getfield 169, 3) := dc_180 (a := 0) (b := 169) (n := 169) (by decide +kernel)
theorem dX3_endWord_12 : decode cX3_endWord 12 = .ok (.iconst 0, 1) := dc_3 (by decide +kernel)
theorem dX3_endWord_13 : decode cX3_endWord 13 = .ok (.putfield 210, 3) := dc_181 (a := 0) (b := 210) (n := 210) (by decide +kernel)
theorem dX3_endWord_16 : decode cX3_endWord 16 = .ok (.aload_n 0, 1) := dc_42 (by decide +kernel)
theorem dX3_endWord_17 : decode cX3_endWord 17 = .ok (.getfield 14, 3) := dc_180 (a := 0) (b := 14) (n := 14) (by decide +kernel)
theorem dX3_endWord_20 : decode cX3_endWord 20 = .ok (.aload_n 0, 1) := dc_42 (by decide +kernel)
theorem dX3_endWord_21 : decode cX3_endWord 21 = .ok (.aload_n 0, 1) := dc_42 (by decide +kernel)
theorem dX3_endWord_22 : decode cX3_endWord 22 = .ok (.getfield 162, 3) := dc_180 (a := 0) (b := 162) (n := 162) (by decide +kernel)
theorem dX3_endWord_25 : decode cX3_endWord 25 = .ok (.aload_n 0, 1) := dc_42 (by decide +kernel)
theorem dX3_endWord_26 : decode cX3_endWord 26 = .ok (.getfield 219, 3) := dc_180 (a := 0) (b := 219) (n := 219) (by decide +kernel)
theorem dX3_endWord_29 : decode cX3_endWord 29 = .ok (.aload_n 0, 1) := dc_42 (by decide +kernel)
theorem dX3_endWord_30 : decode cX3_endWord 30 = .ok (.getfield 169, 3) := dc_180 (a := 0) (b := 169) (n := 169) (by decide +kernel)
theorem dX3_endWord_33 : decode cX3_endWord 33 = .ok (.invokevirtual 475, 3) := dc_182 (a := 1) (b := 219) (n := 475) (by decide +kernel)
theorem dX3_endWord_36 : decode cX3_endWord 36 = .ok (.iconst 2, 1) := dc_5 (by decide +kernel)
theorem dX3_endWord_37 : decode cX3_endWord 37 = .ok (.invokevirtual 289, 3) := dc_182 (a := 1) (b := 33) (n := 289) (by decide +kernel)
theorem dX3_endWord_40 : decode cX3_endWord 40 = .ok (.aload_n 0, 1) := dc_42 (by decide +kernel)
theorem dX3_endWord_41 : decode cX3_endWord 41 = .ok (.invokevirtual 501, 3) := dc_182 (a := 1) (b := 245) (n := 501) (by decide +kernel)
theorem dX3_endWord_44 : decode cX3_endWord 44 = .ok (.iconst 0, 1) := dc_3 (by decide +kernel)
theorem dX3_endWord_45 : decode cX3_endWord 45 = .ok (.istore_n 1, 1) := dc_60 (by decide +kernel)
theorem dX3_endWord_46 : decode cX3_endWord 46 = .ok (.iload_n 1, 1) := dc_27 (by decide +kernel)
theorem dX3_endWord_47 : decode cX3_endWord 47 = .ok (.aload_n 0, 1) := dc_42 (by decide +kernel)
theorem dX3_endWord_48 : decode cX3_endWord 48 = .ok (.getfield 169, 3) := dc_180 (a := 0) (b := 169) (n := 169) (by decide +kernel)
theorem dX3_endWord_51 : decode cX3_endWord 51 = .ok (.getfield 210, 3) := dc_180 (a := 0) (b := 210) (n := 210) (by decide +kernel)
theorem dX3_endWord_54 : decode cX3_endWord 54 = .ok (.if_icmp .gt 102, 3) := dc_163 (a := 0) (b := 102) (v := 102) (by decide +kernel)
theorem dX3_endWord_57 : decode cX3_endWord 57 = .ok (.aload_n 0, 1) := dc_42 (by decide +kernel)
theorem dX3_endWord_58 : decode cX3_endWord 58 = .ok (.getfield 175, 3) := dc_180 (a := 0) (b := 175) (n := 175) (by decide +kernel)
theorem dX3_endWord_61 : decode cX3_endWord 61 = .ok (.iload_n 1, 1) := dc_27 (by decide +kernel)
theorem dX3_endWord_62 : decode cX3_endWord 62 = .ok (.iaload, 1) := dc_46 (by decide +kernel)
theorem dX3_endWord_63 : decode cX3_endWord 63 = .ok (.ifCond .le 19, 3) := dc_158 (a := 0) (b := 19) (v := 19) (by decide +kernel)
theorem dX3_endWord_66 : decode cX3_endWord 66 = .ok (.aload_n 0, 1) := dc_42 (by decide +kernel)
theorem dX3_endWord_67 : decode cX3_endWord 67 = .ok (.aload_n 0, 1) := dc_42 (by decide +kernel)
theorem dX3_endWord_68 : decode cX3_endWord 68 = .ok (.getfield 457, 3) := dc_180 (a := 1) (b := 201) (n := 457) (by decide +kernel)
theorem dX3_endWord_71 : decode cX3_endWord 71 = .ok (.aload_n 0, 1) := dc_42 (by decide +kernel)
theorem dX3_endWord_72 : decode cX3_endWord 72 = .ok (.getfield 175, 3) := dc_180 (a := 0) (b := 175) (n := 175) (by decide +kernel)
theorem dX3_endWord_75 : decode cX3_endWord 75 = .ok (.iload_n 1, 1) := dc_27 (by decide +kernel)
theorem dX3_endWord_76 : decode cX3_endWord 76 = .ok (.iaload, 1) := dc_46 (by decide +kernel)
theorem dX3_endWord_77 : decode cX3_endWord 77 = .ok (.iconst 1, 1) := dc_4 (by decide +kernel)
theorem dX3_endWord_78 : decode cX3_endWord 78 = .ok (.isub, 1) := dc_100 (by decide +kernel)
theorem dX3_endWord_79 : decode cX3_endWord 79 = .ok (.invokevirtual 504, 3) := dc_182 (a := 1) (b := 248) (n := 504) (by decide +kernel)
theorem dX3_endWord_82 : decode cX3_endWord 82 = .ok (.iload_n 1, 1) := dc_27 (by decide +kernel)
theorem dX3_endWord_83 : decode cX3_endWord 83 = .ok (.aload_n 0, 1) := dc_42 (by decide +kernel)
theorem dX3_endWord_84 : decode cX3_endWord 84 = .ok (.getfield 169, 3) := dc_180 (a := 0) (b := 169) (n := 169) (by decide +kernel)
theorem dX3_endWord_87 : decode cX3_endWord 87 = .ok (.getfield 210, 3) := dc_180 (a := 0) (b := 210) (n := 210) (by decide +kernel)
theorem dX3_endWord_90 : decode cX3_endWord 90 = .ok (.if_icmp .ge 60, 3) := dc_162 (a := 0) (b := 60) (v := 60) (by decide +kernel)
theorem dX3_endWord_93 : decode cX3_endWord 93 = .ok (.aload_n 0, 1) := dc_42 (by decide +kernel)
theorem dX3_endWord_94 : decode cX3_endWord 94 = .ok (.aload_n 0, 1) := dc_42 (by decide +kernel)
theorem dX3_endWord_95 : decode cX3_endWord 95 = .ok (.getfield 169, 3) := dc_180 (a := 0) (b := 169) (n := 169) (by decide +kernel)
theorem dX3_endWord_98 : decode cX3_endWord 98 = .ok (.iload_n 1, 1) := dc_27 (by decide +kernel)
theorem dX3_endWord_99 : decode cX3_endWord 99 = .ok (.invokevirtual 359, 3) := dc_182 (a := 1) (b := 103) (n := 359) (by decide +kernel)
theorem dX3_endWord_102 : decode cX3_endWord 102 = .ok (.aload_n 0, 1) := dc_42 (by decide +kernel)
theorem dX3_endWord_103 : decode cX3_endWord 103 = .ok (.getfield 169, 3) := dc_180 (a := 0) (b := 169) (n := 169) (by decide +kernel)
theorem dX3_endWord_106 : decode cX3_endWord 106 = .ok (.iload_n 1, 1) := dc_27 (by decide +kernel)
theorem dX3_endWord_107 : decode cX3_endWord 107 = .ok (.iconst 0, 1) := dc_3 (by decide +kernel)
theorem dX3_endWord_108 : decode cX3_endWord 108 = .ok (.invokevirtual 363, 3) := dc_182 (a := 1) (b := 107) (n := 363) (by decide +kernel)
theorem dX3_endWord_111 : decode cX3_endWord 111 = .ok (.aload_n 0, 1) := dc_42 (by decide +kernel)
theorem dX3_endWord_112 : decode cX3_endWord 112 = .ok (.getfield 169, 3) := dc_180 (a := 0) (b := 169) (n := 169) (by decide +kernel)
theorem dX3_endWord_115 : decode cX3_endWord 115 = .ok (.iload_n 1, 1) := dc_27 (by decide +kernel)
theorem dX3_endWord_116 : decode cX3_endWord 116 = .ok (.iconst 1, 1) := dc_4 (by decide +kernel)
theorem dX3_endWord_117 : decode cX3_endWord 117 = .ok (.invokevirtual 363, 3) := dc_182 (a := 1) (b := 107) (n := 363) (by decide +kernel)
theorem dX3_endWord_120 : decode cX3_endWord 120 = .ok (.aload_n 0, 1) := dc_42 (by decide +kernel)
theorem dX3_endWord_121 : decode cX3_endWord 121 = .ok (.getfield 169, 3) := dc_180 (a := 0) (b := 169) (n := 169) (by decide +kernel)
theorem dX3_endWord_124 : decode cX3_endWord 124 = .ok (.iload_n 1, 1) := dc_27 (by decide +kernel)
theorem dX3_endWord_125 : decode cX3_endWord 125 = .ok (.iconst 2, 1) := dc_5 (by decide +kernel)
theorem dX3_endWord_126 : decode cX3_endWord 126 = .ok (.invokevirtual 363, 3) := dc_182 (a := 1) (b := 107) (n := 363) (by decide +kernel)
theorem dX3_endWord_129 : decode cX3_endWord 129 = .ok (.aload_n 0, 1) := dc_42 (by decide +kernel)
theorem dX3_endWord_130 : decode cX3_endWord 130 = .ok (.getfield 169, 3) := dc_180 (a := 0) (b := 169) (n := 169) (by decide +kernel)
theorem dX3_endWord_133 : decode cX3_endWord 133 = .ok (.iload_n 1, 1) := dc_27 (by decide +kernel)
theorem dX3_endWord_134 : decode cX3_endWord 134 = .ok (.iconst 3, 1) := dc_6 (by decide +kernel)
theorem dX3_endWord_135 : decode cX3_endWord 135 = .ok (.invokevirtual 363, 3) := dc_182 (a := 1) (b := 107) (n := 363) (by decide +kernel)
theorem dX3_endWord_138 : decode cX3_endWord 138 = .ok (.aload_n 0, 1) := dc_42 (by decide +kernel)
theorem dX3_endWord_139 : decode cX3_endWord 139 = .ok (.getfield 169, 3) := dc_180 (a := 0) (b := 169) (n := 169) (by decide +kernel)
theorem dX3_endWord_142 : decode cX3_endWord 142 = .ok (.iload_n 1, 1) := dc_27 (by decide +kernel)
theorem dX3_endWord_143 : decode cX3_endWord 143 = .ok (.iconst 4, 1) := dc_7 (by decide +kernel)
theorem dX3_endWord_144 : decode cX3_endWord 144 = .ok (.invokevirtual 363, 3) := dc_182 (a := 1) (b := 107) (n := 363) (by decide +kernel)
theorem dX3_endWord_147 : decode cX3_endWord 147 = .ok (.invokevirtual 318, 3) := dc_182 (a := 1) (b := 62) (n := 318) (by decide +kernel)
theorem dX3_endWord_150 : decode cX3_endWord 150 = .ok (.iinc 1 1, 3) := dc_132 (a := 1) (b := 1) (v := 1) (by decide +kernel)
theorem dX3_endWord_153 : decode cX3_endWord 153 = .ok (.goto (-107), 3) := dc_167 (a := 255) (b := 149) (v := -107) (by decide +kernel)
theorem dX3_endWord_156 : decode cX3_endWord 156 = .ok (.aload_n 0, 1) := dc_42 (by decide +kernel)
theorem dX3_endWord_157 : decode cX3_endWord 157 = .ok (.getfield 136, 3) := dc_180 (a := 0) (b := 136) (n := 136) (by decide +kernel)
theorem dX3_endWord_160 : decode cX3_endWord 160 = .ok (.aload_n 0, 1) := dc_42 (by decide +kernel)
theorem dX3_endWord_161 : decode cX3_endWord 161 = .ok (.getfield 211, 3) := dc_180 (a := 0) (b := 211) (n := 211) (by decide +kernel)
theorem dX3_endWord_164 : decode cX3_endWord 164 = .ok (.iaload, 1) := dc_46 (by decide +kernel)
theorem dX3_endWord_165 : decode cX3_endWord 165 = .ok (.iconst 2, 1) := dc_5 (by decide +kernel)
theorem dX3_endWord_166 : decode cX3_endWord 166 = .ok (.if_icmp .ne 23, 3) := dc_160 (a := 0) (b := 23) (v := 23) (by decide +kernel)
theorem dX3_endWord_169 : decode cX3_endWord 169 = .ok (.aload_n 0, 1) := dc_42 (by decide +kernel)
theorem dX3_endWord_170 : decode cX3_endWord 170 = .ok (.getfield 162, 3) := dc_180 (a := 0) (b := 162) (n := 162) (by decide +kernel)
theorem dX3_endWord_173 : decode cX3_endWord 173 = .ok (.aload_n 0, 1) := dc_42 (by decide +kernel)
theorem dX3_endWord_174 : decode cX3_endWord 174 = .ok (.getfield 219, 3) := dc_180 (a := 0) (b := 219) (n := 219) (by decide +kernel)
theorem dX3_endWord_177 : decode cX3_endWord 177 = .ok (.iconst 1, 1) := dc_4 (by decide +kernel)
theorem dX3_endWord_178 : decode cX3_endWord 178 = .ok (.isub, 1) := dc_100 (by decide +kernel)
theorem dX3_endWord_179 : decode cX3_endWord 179 = .ok (.baload, 1) := dc_51 (by decide +kernel)
theorem dX3_endWord_180 : decode cX3_endWord 180 = .ok (.bipush 45, 2) := dc_16 (a := 45) (v := 45) (by decide +kernel)
theorem dX3_endWord_182 : decode cX3_endWord 182 = .ok (.if_icmp .ne 7, 3) := dc_160 (a := 0) (b := 7) (v := 7) (by decide +kernel)
theorem dX3_endWord_185 : decode cX3_endWord 185 = .ok (.iconst 1, 1) := dc_4 (by decide +kernel)
theorem dX3_endWord_186 : decode cX3_endWord 186 = .ok (.goto 4, 3) := dc_167 (a := 0) (b := 4) (v := 4) (by decide +kernel)
theorem dX3_endWord_189 : decode cX3_endWord 189 = .ok (.iconst 0, 1) := dc_3 (by decide +kernel)
theorem dX3_endWord_190 : decode cX3_endWord 190 = .ok (.istore_n 1, 1) := dc_60 (by decide +kernel)
theorem dX3_endWord_191 : decode cX3_endWord 191 = .ok (.iload_n 1, 1) := dc_27 (by decide +kernel)
theorem dX3_endWord_192 : decode cX3_endWord 192 = .ok (.ifCond .eq 14, 3) := dc_153 (a := 0) (b := 14) (v := 14) (by decide +kernel)
theorem dX3_endWord_195 : decode cX3_endWord 195 = .ok (.aload_n 0, 1) := dc_42 (by decide +kernel)
theorem dX3_endWord_196 : decode cX3_endWord 196 = .ok (.bipush 6, 2) := dc_16 (a := 6) (v := 6) (by decide +kernel)
theorem dX3_endWord_198 : decode cX3_endWord 198 = .ok (.iconst 0, 1) := dc_3 (by decide +kernel)
theorem dX3_endWord_199 : decode cX3_endWord 199 = .ok (.iconst 0, 1) := dc_3 (by decide +kernel)
theorem dX3_endWord_200 : decode cX3_endWord 200 = .ok (.iconst 0, 1) := dc_3 (by decide +kernel)
theorem dX3_endWord_201 : decode cX3_endWord 201 = .ok (.iconst 0, 1) := dc_3 (by decide +kernel)
theorem dX3_endWord_202 : decode cX3_endWord 202 = .ok (.iconst 0, 1) := dc_3 (by decide +kernel)
theorem dX3_endWord_203 : decode cX3_endWord 203 = .ok (.invokevirtual 318, 3) := dc_182 (a := 1) (b := 62) (n := 318) (by decide +kernel)
theorem dX3_endWord_206 : decode cX3_endWord 206 = .ok (.aload_n 0, 1) := dc_42 (by decide +kernel)
theorem dX3_endWord_207 : decode cX3_endWord 207 = .ok (.iconst 0, 1) := dc_3 (by decide +kernel)
theorem dX3_endWord_208 : decode cX3_endWord 208 = .ok (.putfield 219, 3) := dc_181 (a := 0) (b := 219) (n := 219) (by decide +kernel)
theorem dX3_endWord_211 : decode cX3_endWord 211 = .ok (.return_, 1) := dc_177 (by decide +kernel)
def fX3_endWord_b150 (N : Nat) (k46 : Nat → Int32 → eH → Option ((Unit ⊕ Nat) × eH)) (l0 : Nat) (l1 : Int32) (h : eH) : Option ((Unit ⊕ Nat) × eH) :=
  k46 l0 (l1 + (1 : Int32)) h
theorem pX3_endWord_b150 {w : eW} {d : Nat} (hd : 10 ≤ d + 1) {N : Nat} {k46 : Nat → Int32 → eH → Option ((Unit ⊕ Nat) × eH)} (hk46 : ∀ l0 l1 h q, k46 l0 l1 h = some q → wp w (d + 1) YX3_endWord 46 [some (.ref l0), some (.int l1)] [] h (e_is (e_rt c_V q))) {l0 : Nat} {l1 : Int32} {h : eH} {q} (hf : fX3_endWord_b150 N k46 l0 l1 h = some q) : wp w (d + 1) YX3_endWord 150 [some (.ref l0), some (.int l1)] [] h (e_is (e_rt c_V q)) := by
  unfold fX3_endWord_b150 at hf
  refine w_iinc dX3_endWord_150 (v := (l1 + (1 : Int32))) rfl rfl (by decide) (ls' := [some (.ref l0), some (.int (l1 + (1 : Int32)))]) rfl ?_
  refine w_goto 46 dX3_endWord_153 (by decide) ?_
  exact (hk46 _ _ _ _ hf).to ⟨rfl, rfl, trivial⟩
def fX3_endWord_b82 (N : Nat) (k46 : Nat → Int32 → eH → Option ((Unit ⊕ Nat) × eH)) (l0 : Nat) (l1 : Int32) (h : eH) : Option ((Unit ⊕ Nat) × eH) :=
  (g_A 2 h l0 32).bind fun a1 =>
  (g_I 33 h a1 1).bind fun x3 =>
  if x3 ≤ l1 then
    fX3_endWord_b150 N k46 l0 l1 h
  else
    (g_A 2 h l0 32).bind fun a6 =>
    (k_ok 33 h a6).bind fun _ =>
    (fX34_kind a6 l1 h).bind fun q9 =>
    (g_A 2 q9.2 l0 32).bind fun a10 =>
    (k_ok 33 q9.2 a10).bind fun _ =>
    (fX34_of a10 l1 (0 : Int32) q9.2).bind fun q13 =>
    (g_A 2 q13.2 l0 32).bind fun a14 =>
    (k_ok 33 q13.2 a14).bind fun _ =>
    (fX34_of a14 l1 (1 : Int32) q13.2).bind fun q17 =>
    (g_A 2 q17.2 l0 32).bind fun a18 =>
    (k_ok 33 q17.2 a18).bind fun _ =>
    (fX34_of a18 l1 (2 : Int32) q17.2).bind fun q21 =>
    (g_A 2 q21.2 l0 32).bind fun a22 =>
    (k_ok 33 q21.2 a22).bind fun _ =>
    (fX34_of a22 l1 (3 : Int32) q21.2).bind fun q25 =>
    (g_A 2 q25.2 l0 32).bind fun a26 =>
    (k_ok 33 q25.2 a26).bind fun _ =>
    (fX34_of a26 l1 (4 : Int32) q25.2).bind fun q29 =>
    (k_ok 2 q29.2 l0).bind fun _ =>
    t_B (fX3_put l0 q9.1 q13.1 q17.1 q21.1 q25.1 q29.1 q29.2) fun x31 h32 =>
    fX3_endWord_b150 N k46 l0 l1 h32
theorem pX3_endWord_b82 {w : eW} {d : Nat} (hd : 10 ≤ d + 1) {N : Nat} {k46 : Nat → Int32 → eH → Option ((Unit ⊕ Nat) × eH)} (hk46 : ∀ l0 l1 h q, k46 l0 l1 h = some q → wp w (d + 1) YX3_endWord 46 [some (.ref l0), some (.int l1)] [] h (e_is (e_rt c_V q))) {l0 : Nat} {l1 : Int32} {h : eH} {q} (hf : fX3_endWord_b82 N k46 l0 l1 h = some q) : wp w (d + 1) YX3_endWord 82 [some (.ref l0), some (.int l1)] [] h (e_is (e_rt c_V q)) := by
  unfold fX3_endWord_b82 at hf
  refine w_iload_n dX3_endWord_82 rfl rfl ?_
  refine w_aload_n dX3_endWord_83 rfl rfl ?_
  obtain ⟨a1, b2, hf⟩ := Option.bind_eq_some_iff.mp hf
  refine GX3_169 b2 dX3_endWord_84 rfl ?_
  obtain ⟨x3, b4, hf⟩ := Option.bind_eq_some_iff.mp hf
  refine GX3_210 b4 dX3_endWord_87 rfl ?_
  refine w_icmp_ge 150 dX3_endWord_90 (by decide) (fun c5 => ?_) (fun c5 => ?_)
  · replace hf := (if_pos (show x3 ≤ l1 from c5)).symm.trans hf
    exact (pX3_endWord_b150 hd hk46 hf).to ⟨rfl, rfl, trivial⟩
  · replace hf := (if_neg (show ¬ (x3 ≤ l1) from c5)).symm.trans hf
    refine w_aload_n dX3_endWord_93 rfl rfl ?_
    refine w_aload_n dX3_endWord_94 rfl rfl ?_
    obtain ⟨a6, b7, hf⟩ := Option.bind_eq_some_iff.mp hf
    refine GX3_169 b7 dX3_endWord_95 rfl ?_
    refine w_iload_n dX3_endWord_98 rfl rfl ?_
    obtain ⟨_, b8, hf⟩ := Option.bind_eq_some_iff.mp hf
    refine x_cnI hf (e_stV (Yc := YX34_kind) (ci := 33) (av := [.int l1]) (st := [.ref l0]) dX3_endWord_99 q3157 mX34_kind rfl (k_ok_some b8).1 (k_ok_some b8).2) mX34_kind.2.2.1 mX34_kind.2.2.2.2.1 (Nat.le_of_ble_eq_true rfl) (Nat.le_of_ble_eq_true rfl) (fun q hq => pX34_kind (by omega) hq) (fun q9 hf => ?_)
    refine w_aload_n dX3_endWord_102 rfl rfl ?_
    obtain ⟨a10, b11, hf⟩ := Option.bind_eq_some_iff.mp hf
    refine GX3_169 b11 dX3_endWord_103 rfl ?_
    refine w_iload_n dX3_endWord_106 rfl rfl ?_
    refine w_iconst dX3_endWord_107 (v := 0) (by decide) ?_
    obtain ⟨_, b12, hf⟩ := Option.bind_eq_some_iff.mp hf
    refine x_cnI hf (e_stV (Yc := YX34_of) (ci := 33) (av := [.int l1, .int (0 : Int32)]) (st := [.int q9.1, .ref l0]) dX3_endWord_108 q3161 mX34_of rfl (k_ok_some b12).1 (k_ok_some b12).2) mX34_of.2.2.1 mX34_of.2.2.2.2.1 (Nat.le_of_ble_eq_true rfl) (Nat.le_of_ble_eq_true rfl) (fun q hq => pX34_of (by omega) hq) (fun q13 hf => ?_)
    refine w_aload_n dX3_endWord_111 rfl rfl ?_
    obtain ⟨a14, b15, hf⟩ := Option.bind_eq_some_iff.mp hf
    refine GX3_169 b15 dX3_endWord_112 rfl ?_
    refine w_iload_n dX3_endWord_115 rfl rfl ?_
    refine w_iconst dX3_endWord_116 (v := 1) (by decide) ?_
    obtain ⟨_, b16, hf⟩ := Option.bind_eq_some_iff.mp hf
    refine x_cnI hf (e_stV (Yc := YX34_of) (ci := 33) (av := [.int l1, .int (1 : Int32)]) (st := [.int q13.1, .int q9.1, .ref l0]) dX3_endWord_117 q3161 mX34_of rfl (k_ok_some b16).1 (k_ok_some b16).2) mX34_of.2.2.1 mX34_of.2.2.2.2.1 (Nat.le_of_ble_eq_true rfl) (Nat.le_of_ble_eq_true rfl) (fun q hq => pX34_of (by omega) hq) (fun q17 hf => ?_)
    refine w_aload_n dX3_endWord_120 rfl rfl ?_
    obtain ⟨a18, b19, hf⟩ := Option.bind_eq_some_iff.mp hf
    refine GX3_169 b19 dX3_endWord_121 rfl ?_
    refine w_iload_n dX3_endWord_124 rfl rfl ?_
    refine w_iconst dX3_endWord_125 (v := 2) (by decide) ?_
    obtain ⟨_, b20, hf⟩ := Option.bind_eq_some_iff.mp hf
    refine x_cnI hf (e_stV (Yc := YX34_of) (ci := 33) (av := [.int l1, .int (2 : Int32)]) (st := [.int q17.1, .int q13.1, .int q9.1, .ref l0]) dX3_endWord_126 q3161 mX34_of rfl (k_ok_some b20).1 (k_ok_some b20).2) mX34_of.2.2.1 mX34_of.2.2.2.2.1 (Nat.le_of_ble_eq_true rfl) (Nat.le_of_ble_eq_true rfl) (fun q hq => pX34_of (by omega) hq) (fun q21 hf => ?_)
    refine w_aload_n dX3_endWord_129 rfl rfl ?_
    obtain ⟨a22, b23, hf⟩ := Option.bind_eq_some_iff.mp hf
    refine GX3_169 b23 dX3_endWord_130 rfl ?_
    refine w_iload_n dX3_endWord_133 rfl rfl ?_
    refine w_iconst dX3_endWord_134 (v := 3) (by decide) ?_
    obtain ⟨_, b24, hf⟩ := Option.bind_eq_some_iff.mp hf
    refine x_cnI hf (e_stV (Yc := YX34_of) (ci := 33) (av := [.int l1, .int (3 : Int32)]) (st := [.int q21.1, .int q17.1, .int q13.1, .int q9.1, .ref l0]) dX3_endWord_135 q3161 mX34_of rfl (k_ok_some b24).1 (k_ok_some b24).2) mX34_of.2.2.1 mX34_of.2.2.2.2.1 (Nat.le_of_ble_eq_true rfl) (Nat.le_of_ble_eq_true rfl) (fun q hq => pX34_of (by omega) hq) (fun q25 hf => ?_)
    refine w_aload_n dX3_endWord_138 rfl rfl ?_
    obtain ⟨a26, b27, hf⟩ := Option.bind_eq_some_iff.mp hf
    refine GX3_169 b27 dX3_endWord_139 rfl ?_
    refine w_iload_n dX3_endWord_142 rfl rfl ?_
    refine w_iconst dX3_endWord_143 (v := 4) (by decide) ?_
    obtain ⟨_, b28, hf⟩ := Option.bind_eq_some_iff.mp hf
    refine x_cnI hf (e_stV (Yc := YX34_of) (ci := 33) (av := [.int l1, .int (4 : Int32)]) (st := [.int q25.1, .int q21.1, .int q17.1, .int q13.1, .int q9.1, .ref l0]) dX3_endWord_144 q3161 mX34_of rfl (k_ok_some b28).1 (k_ok_some b28).2) mX34_of.2.2.1 mX34_of.2.2.2.2.1 (Nat.le_of_ble_eq_true rfl) (Nat.le_of_ble_eq_true rfl) (fun q hq => pX34_of (by omega) hq) (fun q29 hf => ?_)
    obtain ⟨_, b30, hf⟩ := Option.bind_eq_some_iff.mp hf
    refine x_ctV hf (e_stV (Yc := YX3_put) (ci := 2) (av := [.int q9.1, .int q13.1, .int q17.1, .int q21.1, .int q25.1, .int q29.1]) (st := []) dX3_endWord_147 q3177 mX3_put rfl (k_ok_some b30).1 (k_ok_some b30).2) mX3_put.2.2.1 mX3_put.2.2.2.2.1 (Nat.le_of_ble_eq_true rfl) (Nat.le_of_ble_eq_true rfl) rfl (fun q hq => pX3_put (by omega) hq) (fun x31 h32 hf => ?_)
    exact (pX3_endWord_b150 hd hk46 hf).to ⟨rfl, rfl, trivial⟩
def fX3_endWord_b206 (N : Nat) (l0 : Nat) (h : eH) : Option ((Unit ⊕ Nat) × eH) :=
  (p_V 2 h l0 30 (.int (0 : Int32))).bind fun h1 =>
  some (.inl (), h1)
theorem pX3_endWord_b206 {w : eW} {d : Nat} (hd : 10 ≤ d + 1) {N : Nat} {l0 : Nat} {h : eH} {q} (hf : fX3_endWord_b206 N l0 h = some q) : wp w (d + 1) YX3_endWord 206 [some (.ref l0), none] [] h (e_is (e_rt c_V q)) := by
  unfold fX3_endWord_b206 at hf
  refine w_aload_n dX3_endWord_206 rfl rfl ?_
  refine w_iconst dX3_endWord_207 (v := 0) (by decide) ?_
  obtain ⟨h1, b2, hf⟩ := Option.bind_eq_some_iff.mp hf
  refine SX3_219 b2 dX3_endWord_208 rfl ?_
  cases hf
  exact w_vret dX3_endWord_211 rfl rfl
def fX3_endWord_b190 (N : Nat) (l0 : Nat) (s0 : Int32) (h : eH) : Option ((Unit ⊕ Nat) × eH) :=
  if s0 = 0 then
    fX3_endWord_b206 N l0 h
  else
    (k_ok 2 h l0).bind fun _ =>
    t_B (fX3_put l0 (6 : Int32) (0 : Int32) (0 : Int32) (0 : Int32) (0 : Int32) (0 : Int32) h) fun x3 h4 =>
    fX3_endWord_b206 N l0 h4
theorem pX3_endWord_b190 {w : eW} {d : Nat} (hd : 10 ≤ d + 1) {N : Nat} {l0 : Nat} {s0 : Int32} {h : eH} {q} (hf : fX3_endWord_b190 N l0 s0 h = some q) : wp w (d + 1) YX3_endWord 190 [some (.ref l0), none] [.int s0] h (e_is (e_rt c_V q)) := by
  unfold fX3_endWord_b190 at hf
  refine w_istore_n dX3_endWord_190 rfl (by decide) (ls' := [some (.ref l0), some (.int s0)]) rfl ?_
  refine w_iload_n dX3_endWord_191 rfl rfl ?_
  refine w_if_eq 206 dX3_endWord_192 (by decide) (fun c1 => ?_) (fun c1 => ?_)
  · replace hf := (if_pos (show s0 = 0 from c1)).symm.trans hf
    exact (pX3_endWord_b206 hd hf).to ⟨rfl, trivial⟩
  · replace hf := (if_neg (show ¬ (s0 = 0) from c1)).symm.trans hf
    refine w_aload_n dX3_endWord_195 rfl rfl ?_
    refine w_bipush dX3_endWord_196 (v := 6) (by decide) ?_
    refine w_iconst dX3_endWord_198 (v := 0) (by decide) ?_
    refine w_iconst dX3_endWord_199 (v := 0) (by decide) ?_
    refine w_iconst dX3_endWord_200 (v := 0) (by decide) ?_
    refine w_iconst dX3_endWord_201 (v := 0) (by decide) ?_
    refine w_iconst dX3_endWord_202 (v := 0) (by decide) ?_
    obtain ⟨_, b2, hf⟩ := Option.bind_eq_some_iff.mp hf
    refine x_ctV hf (e_stV (Yc := YX3_put) (ci := 2) (av := [.int (6 : Int32), .int (0 : Int32), .int (0 : Int32), .int (0 : Int32), .int (0 : Int32), .int (0 : Int32)]) (st := []) dX3_endWord_203 q3177 mX3_put rfl (k_ok_some b2).1 (k_ok_some b2).2) mX3_put.2.2.1 mX3_put.2.2.2.2.1 (Nat.le_of_ble_eq_true rfl) (Nat.le_of_ble_eq_true rfl) rfl (fun q hq => pX3_put (by omega) hq) (fun x3 h4 hf => ?_)
    exact (pX3_endWord_b206 hd hf).to ⟨rfl, trivial⟩
def fX3_endWord_b189 (N : Nat) (l0 : Nat) (h : eH) : Option ((Unit ⊕ Nat) × eH) :=
  fX3_endWord_b190 N l0 (0 : Int32) h
theorem pX3_endWord_b189 {w : eW} {d : Nat} (hd : 10 ≤ d + 1) {N : Nat} {l0 : Nat} {h : eH} {q} (hf : fX3_endWord_b189 N l0 h = some q) : wp w (d + 1) YX3_endWord 189 [some (.ref l0), none] [] h (e_is (e_rt c_V q)) := by
  unfold fX3_endWord_b189 at hf
  refine w_iconst dX3_endWord_189 (v := 0) (by decide) ?_
  exact (pX3_endWord_b190 hd hf).to ⟨rfl, trivial⟩
def fX3_endWord_b46 (N : Nat) : Nat → Nat → Int32 → eH → Option ((Unit ⊕ Nat) × eH)
  | 0, _, _, _ => none
  | n + 1, l0, l1, h =>
    (g_A 2 h l0 32).bind fun a1 =>
    (g_I 33 h a1 1).bind fun x3 =>
    if x3 < l1 then
      (g_A 2 h l0 19).bind fun a6 =>
      (g_I 2 h l0 27).bind fun x8 =>
      (r_I 100 h a6 x8).bind fun x10 =>
      if ¬ x10 = (2 : Int32) then
        fX3_endWord_b189 N l0 h
      else
        (g_A 2 h l0 28).bind fun a13 =>
        (g_I 2 h l0 30).bind fun x15 =>
        (r_I 102 h a13 (x15 - (1 : Int32))).bind fun x17 =>
        if ¬ x17 = (45 : Int32) then
          fX3_endWord_b189 N l0 h
        else
          fX3_endWord_b190 N l0 (1 : Int32) h
    else
      (g_A 2 h l0 34).bind fun a20 =>
      (r_I 100 h a20 l1).bind fun x22 =>
      if x22 ≤ 0 then
        fX3_endWord_b82 N (fX3_endWord_b46 N n) l0 l1 h
      else
        (g_I 2 h l0 31).bind fun x25 =>
        (g_A 2 h l0 34).bind fun a27 =>
        (r_I 100 h a27 l1).bind fun x29 =>
        (k_ok 2 h l0).bind fun _ =>
        t_B (fX3_addHyphen l0 x25 (x29 - (1 : Int32)) h) fun x32 h33 =>
        fX3_endWord_b82 N (fX3_endWord_b46 N n) l0 l1 h33
theorem pX3_endWord_b46 {w : eW} {d : Nat} (hd : 10 ≤ d + 1) {N : Nat} : ∀ (n : Nat) l0 l1 h q, fX3_endWord_b46 N n l0 l1 h = some q → wp w (d + 1) YX3_endWord 46 [some (.ref l0), some (.int l1)] [] h (e_is (e_rt c_V q)) := by
  intro n
  induction n with
  | zero => intro l0 l1 h q hf; simp [fX3_endWord_b46] at hf
  | succ n ih =>
    intro l0 l1 h q hf
    rw [fX3_endWord_b46] at hf
    refine w_iload_n dX3_endWord_46 rfl rfl ?_
    refine w_aload_n dX3_endWord_47 rfl rfl ?_
    obtain ⟨a1, b2, hf⟩ := Option.bind_eq_some_iff.mp hf
    refine GX3_169 b2 dX3_endWord_48 rfl ?_
    obtain ⟨x3, b4, hf⟩ := Option.bind_eq_some_iff.mp hf
    refine GX3_210 b4 dX3_endWord_51 rfl ?_
    refine w_icmp_gt 156 dX3_endWord_54 (by decide) (fun c5 => ?_) (fun c5 => ?_)
    · replace hf := (if_pos (show x3 < l1 from c5)).symm.trans hf
      refine w_aload_n dX3_endWord_156 rfl rfl ?_
      obtain ⟨a6, b7, hf⟩ := Option.bind_eq_some_iff.mp hf
      refine GX3_136 b7 dX3_endWord_157 rfl ?_
      refine w_aload_n dX3_endWord_160 rfl rfl ?_
      obtain ⟨x8, b9, hf⟩ := Option.bind_eq_some_iff.mp hf
      refine GX3_211 b9 dX3_endWord_161 rfl ?_
      obtain ⟨x10, b11, hf⟩ := Option.bind_eq_some_iff.mp hf
      refine x_rI b11 dX3_endWord_164 ?_
      refine w_iconst dX3_endWord_165 (v := 2) (by decide) ?_
      refine w_icmp_ne 189 dX3_endWord_166 (by decide) (fun c12 => ?_) (fun c12 => ?_)
      · replace hf := (if_pos (show ¬ x10 = (2 : Int32) from c12)).symm.trans hf
        exact (pX3_endWord_b189 hd hf).to ⟨rfl, trivial⟩
      · replace hf := (if_neg (show ¬ (¬ x10 = (2 : Int32)) from (fun z => z c12))).symm.trans hf
        refine w_aload_n dX3_endWord_169 rfl rfl ?_
        obtain ⟨a13, b14, hf⟩ := Option.bind_eq_some_iff.mp hf
        refine GX3_162 b14 dX3_endWord_170 rfl ?_
        refine w_aload_n dX3_endWord_173 rfl rfl ?_
        obtain ⟨x15, b16, hf⟩ := Option.bind_eq_some_iff.mp hf
        refine GX3_219 b16 dX3_endWord_174 rfl ?_
        refine w_iconst dX3_endWord_177 (v := 1) (by decide) ?_
        refine w_isub dX3_endWord_178 ?_
        obtain ⟨x17, b18, hf⟩ := Option.bind_eq_some_iff.mp hf
        refine x_rB b18 dX3_endWord_179 ?_
        refine w_bipush dX3_endWord_180 (v := 45) (by decide) ?_
        refine w_icmp_ne 189 dX3_endWord_182 (by decide) (fun c19 => ?_) (fun c19 => ?_)
        · replace hf := (if_pos (show ¬ x17 = (45 : Int32) from c19)).symm.trans hf
          exact (pX3_endWord_b189 hd hf).to ⟨rfl, trivial⟩
        · replace hf := (if_neg (show ¬ (¬ x17 = (45 : Int32)) from (fun z => z c19))).symm.trans hf
          refine w_iconst dX3_endWord_185 (v := 1) (by decide) ?_
          refine w_goto 190 dX3_endWord_186 (by decide) ?_
          exact (pX3_endWord_b190 hd hf).to ⟨rfl, trivial⟩
    · replace hf := (if_neg (show ¬ (x3 < l1) from c5)).symm.trans hf
      refine w_aload_n dX3_endWord_57 rfl rfl ?_
      obtain ⟨a20, b21, hf⟩ := Option.bind_eq_some_iff.mp hf
      refine GX3_175 b21 dX3_endWord_58 rfl ?_
      refine w_iload_n dX3_endWord_61 rfl rfl ?_
      obtain ⟨x22, b23, hf⟩ := Option.bind_eq_some_iff.mp hf
      refine x_rI b23 dX3_endWord_62 ?_
      refine w_if_le 82 dX3_endWord_63 (by decide) (fun c24 => ?_) (fun c24 => ?_)
      · replace hf := (if_pos (show x22 ≤ 0 from c24)).symm.trans hf
        exact (pX3_endWord_b82 hd ih hf).to ⟨rfl, rfl, trivial⟩
      · replace hf := (if_neg (show ¬ (x22 ≤ 0) from c24)).symm.trans hf
        refine w_aload_n dX3_endWord_66 rfl rfl ?_
        refine w_aload_n dX3_endWord_67 rfl rfl ?_
        obtain ⟨x25, b26, hf⟩ := Option.bind_eq_some_iff.mp hf
        refine GX3_457 b26 dX3_endWord_68 rfl ?_
        refine w_aload_n dX3_endWord_71 rfl rfl ?_
        obtain ⟨a27, b28, hf⟩ := Option.bind_eq_some_iff.mp hf
        refine GX3_175 b28 dX3_endWord_72 rfl ?_
        refine w_iload_n dX3_endWord_75 rfl rfl ?_
        obtain ⟨x29, b30, hf⟩ := Option.bind_eq_some_iff.mp hf
        refine x_rI b30 dX3_endWord_76 ?_
        refine w_iconst dX3_endWord_77 (v := 1) (by decide) ?_
        refine w_isub dX3_endWord_78 ?_
        obtain ⟨_, b31, hf⟩ := Option.bind_eq_some_iff.mp hf
        refine x_ctV hf (e_stV (Yc := YX3_addHyphen) (ci := 2) (av := [.int x25, .int (x29 - (1 : Int32))]) (st := []) dX3_endWord_79 q3168 mX3_addHyphen rfl (k_ok_some b31).1 (k_ok_some b31).2) mX3_addHyphen.2.2.1 mX3_addHyphen.2.2.2.2.1 (Nat.le_of_ble_eq_true rfl) (Nat.le_of_ble_eq_true rfl) rfl (fun q hq => pX3_addHyphen (by omega) hq) (fun x32 h33 hf => ?_)
        exact (pX3_endWord_b82 hd ih hf).to ⟨rfl, rfl, trivial⟩
def fX3_endWord (N : Nat) (this : Nat) (h : eH) : Option ((Unit ⊕ Nat) × eH) :=
  (g_I 2 h this 30).bind fun x1 =>
  if ¬ x1 = 0 then
    (g_A 2 h this 32).bind fun a4 =>
    (p_V 33 h a4 1 (.int (0 : Int32))).bind fun h6 =>
    (g_A 2 h6 this 0).bind fun a8 =>
    (g_A 2 h6 this 28).bind fun a10 =>
    (g_I 2 h6 this 30).bind fun x12 =>
    (g_A 2 h6 this 32).bind fun a14 =>
    (k_ok 2 h6 this).bind fun _ =>
    (fX3_setRow N this a10 x12 a14 h6).bind fun q17 =>
    (k_ok 3 q17.2 a8).bind fun _ =>
    t_B (fX4_want a8 q17.1 (2 : Int32) q17.2) fun x19 h20 =>
    (k_ok 2 h20 this).bind fun _ =>
    (fX3_findHyphens N this h20).bind fun q22 =>
    fX3_endWord_b46 N N this (0 : Int32) q22.2
  else
    some (.inl (), h)
theorem pX3_endWord {w : eW} {d : Nat} (hd : 10 ≤ d) {N : Nat} {this : Nat} {h : eH} {q} (hf : fX3_endWord N this h = some q) : wm w d YX3_endWord [.ref this] h (e_is (e_rt c_V q)) := by
  obtain ⟨d, rfl⟩ : ∃ e, d = e + 1 := ⟨d - 1, by omega⟩
  show wp w (d + 1) YX3_endWord 0 [some (.ref this), none] [] h _
  unfold fX3_endWord at hf
  refine w_aload_n dX3_endWord_0 rfl rfl ?_
  obtain ⟨x1, b2, hf⟩ := Option.bind_eq_some_iff.mp hf
  refine GX3_219 b2 dX3_endWord_1 rfl ?_
  refine w_if_ne 8 dX3_endWord_4 (by decide) (fun c3 => ?_) (fun c3 => ?_)
  · replace hf := (if_pos (show ¬ x1 = 0 from c3)).symm.trans hf
    refine w_aload_n dX3_endWord_8 rfl rfl ?_
    obtain ⟨a4, b5, hf⟩ := Option.bind_eq_some_iff.mp hf
    refine GX3_169 b5 dX3_endWord_9 rfl ?_
    refine w_iconst dX3_endWord_12 (v := 0) (by decide) ?_
    obtain ⟨h6, b7, hf⟩ := Option.bind_eq_some_iff.mp hf
    refine SX3_210 b7 dX3_endWord_13 rfl ?_
    refine w_aload_n dX3_endWord_16 rfl rfl ?_
    obtain ⟨a8, b9, hf⟩ := Option.bind_eq_some_iff.mp hf
    refine GX3_14 b9 dX3_endWord_17 rfl ?_
    refine w_aload_n dX3_endWord_20 rfl rfl ?_
    refine w_aload_n dX3_endWord_21 rfl rfl ?_
    obtain ⟨a10, b11, hf⟩ := Option.bind_eq_some_iff.mp hf
    refine GX3_162 b11 dX3_endWord_22 rfl ?_
    refine w_aload_n dX3_endWord_25 rfl rfl ?_
    obtain ⟨x12, b13, hf⟩ := Option.bind_eq_some_iff.mp hf
    refine GX3_219 b13 dX3_endWord_26 rfl ?_
    refine w_aload_n dX3_endWord_29 rfl rfl ?_
    obtain ⟨a14, b15, hf⟩ := Option.bind_eq_some_iff.mp hf
    refine GX3_169 b15 dX3_endWord_30 rfl ?_
    obtain ⟨_, b16, hf⟩ := Option.bind_eq_some_iff.mp hf
    refine x_cnI hf (e_stV (Yc := YX3_setRow) (ci := 2) (av := [.ref a10, .int x12, .ref a14]) (st := [.ref a8]) dX3_endWord_33 q2796 mX3_setRow rfl (k_ok_some b16).1 (k_ok_some b16).2) mX3_setRow.2.2.1 mX3_setRow.2.2.2.2.1 (Nat.le_of_ble_eq_true rfl) (Nat.le_of_ble_eq_true rfl) (fun q hq => pX3_setRow (by omega) hq) (fun q17 hf => ?_)
    refine w_iconst dX3_endWord_36 (v := 2) (by decide) ?_
    obtain ⟨_, b18, hf⟩ := Option.bind_eq_some_iff.mp hf
    refine x_ctV hf (e_stV (Yc := YX4_want) (ci := 3) (av := [.int q17.1, .int (2 : Int32)]) (st := []) dX3_endWord_37 q2846 mX4_want rfl (k_ok_some b18).1 (k_ok_some b18).2) mX4_want.2.2.1 mX4_want.2.2.2.2.1 (Nat.le_of_ble_eq_true rfl) (Nat.le_of_ble_eq_true rfl) rfl (fun q hq => pX4_want (by omega) hq) (fun x19 h20 hf => ?_)
    refine w_aload_n dX3_endWord_40 rfl rfl ?_
    obtain ⟨_, b21, hf⟩ := Option.bind_eq_some_iff.mp hf
    refine x_cnV hf (e_stV (Yc := YX3_findHyphens) (ci := 2) (av := []) (st := []) dX3_endWord_41 q2847 mX3_findHyphens rfl (k_ok_some b21).1 (k_ok_some b21).2) mX3_findHyphens.2.2.1 mX3_findHyphens.2.2.2.2.1 (Nat.le_of_ble_eq_true rfl) (Nat.le_of_ble_eq_true rfl) (fun q hq => pX3_findHyphens (by omega) hq) (fun q22 hf => ?_)
    refine w_iconst dX3_endWord_44 (v := 0) (by decide) ?_
    refine w_istore_n dX3_endWord_45 rfl (by decide) (ls' := [some (.ref this), some (.int (0 : Int32))]) rfl ?_
    exact (pX3_endWord_b46 hd N _ _ _ _ hf).to ⟨rfl, rfl, trivial⟩
  · replace hf := (if_neg (show ¬ (¬ x1 = 0) from (fun z => z c3))).symm.trans hf
    cases hf
    exact w_vret dX3_endWord_7 rfl rfl
abbrev cX3_isVertical : ByteArray := prog_26_method_5_code
def yX3_isVertical : MethodName := ⟨RX3, "isVertical", "()Z"⟩
def YX3_isVertical : eY := (yX3_isVertical, cX3_isVertical, 1, (Option.some FieldType.boolean), [])
theorem mX3_isVertical : e_mv YX3_isVertical RX3 0 := ⟨q3192, qs116, q3193, by decide, by decide +kernel, (e_sig (by decide +kernel))⟩
theorem dX3_isVertical_0 : decode cX3_isVertical 0 = .ok (.aload_n 0, 1) := dc_42 (by decide +kernel)
theorem dX3_isVertical_1 : decode cX3_isVertical 1 = .ok (.getfield 136, 3) := dc_180 (a := 0) (b := 136) (n := 136) (by decide +kernel)
theorem dX3_isVertical_4 : decode cX3_isVertical 4 = .ok (.aload_n 0, 1) := dc_42 (by decide +kernel)
theorem dX3_isVertical_5 : decode cX3_isVertical 5 = .ok (.getfield 211, 3) := dc_180 (a := 0) (b := 211) (n := 211) (by decide +kernel)
theorem dX3_isVertical_8 : decode cX3_isVertical 8 = .ok (.iaload, 1) := dc_46 (by decide +kernel)
theorem dX3_isVertical_9 : decode cX3_isVertical 9 = .ok (.iconst 2, 1) := dc_5 (by decide +kernel)
theorem dX3_isVertical_10 : decode cX3_isVertical 10 = .ok (.if_icmp .ge 7, 3) := dc_162 (a := 0) (b := 7) (v := 7) (by decide +kernel)
theorem dX3_isVertical_13 : decode cX3_isVertical 13 = .ok (.iconst 1, 1) := dc_4 (by decide +kernel)
theorem dX3_isVertical_14 : decode cX3_isVertical 14 = .ok (.goto 4, 3) := dc_167 (a := 0) (b := 4) (v := 4) (by decide +kernel)
theorem dX3_isVertical_17 : decode cX3_isVertical 17 = .ok (.iconst 0, 1) := dc_3 (by decide +kernel)
theorem dX3_isVertical_18 : decode cX3_isVertical 18 = .ok (.ireturn, 1) := dc_172 (by decide +kernel)
def fX3_isVertical_b18 (s0 : Int32) (h : eH) : Option (Int32 × eH) :=
  z_r s0 (s0, h)
theorem pX3_isVertical_b18 {w : eW} {d : Nat} (hd : 0 ≤ d) {s0 : Int32} {h : eH} {q} (hf : fX3_isVertical_b18 s0 h = some q) : wp w d YX3_isVertical 18 [none] [.int s0] h (e_is (e_rn c_I q)) := by
  unfold fX3_isVertical_b18 at hf
  obtain ⟨b1, rfl⟩ := z_r_some hf
  exact w_iret dX3_isVertical_18 rfl b1 rfl
def fX3_isVertical (this : Nat) (h : eH) : Option (Int32 × eH) :=
  (g_A 2 h this 19).bind fun a1 =>
  (g_I 2 h this 27).bind fun x3 =>
  (r_I 100 h a1 x3).bind fun x5 =>
  if (2 : Int32) ≤ x5 then
    fX3_isVertical_b18 (0 : Int32) h
  else
    fX3_isVertical_b18 (1 : Int32) h
theorem pX3_isVertical {w : eW} {d : Nat} (hd : 0 ≤ d) {this : Nat} {h : eH} {q} (hf : fX3_isVertical this h = some q) : wm w d YX3_isVertical [.ref this] h (e_is (e_rn c_I q)) := by
  show wp w d YX3_isVertical 0 [some (.ref this)] [] h _
  unfold fX3_isVertical at hf
  refine w_aload_n dX3_isVertical_0 rfl rfl ?_
  obtain ⟨a1, b2, hf⟩ := Option.bind_eq_some_iff.mp hf
  refine GX3_136 b2 dX3_isVertical_1 rfl ?_
  refine w_aload_n dX3_isVertical_4 rfl rfl ?_
  obtain ⟨x3, b4, hf⟩ := Option.bind_eq_some_iff.mp hf
  refine GX3_211 b4 dX3_isVertical_5 rfl ?_
  obtain ⟨x5, b6, hf⟩ := Option.bind_eq_some_iff.mp hf
  refine x_rI b6 dX3_isVertical_8 ?_
  refine w_iconst dX3_isVertical_9 (v := 2) (by decide) ?_
  refine w_icmp_ge 17 dX3_isVertical_10 (by decide) (fun c7 => ?_) (fun c7 => ?_)
  · replace hf := (if_pos (show (2 : Int32) ≤ x5 from c7)).symm.trans hf
    refine w_iconst dX3_isVertical_17 (v := 0) (by decide) ?_
    exact (pX3_isVertical_b18 hd hf).to trivial
  · replace hf := (if_neg (show ¬ ((2 : Int32) ≤ x5) from c7)).symm.trans hf
    refine w_iconst dX3_isVertical_13 (v := 1) (by decide) ?_
    refine w_goto 18 dX3_isVertical_14 (by decide) ?_
    exact (pX3_isVertical_b18 hd hf).to trivial
abbrev cX27_grownBytes : ByteArray := prog_22_method_2_code
def yX27_grownBytes : MethodName := ⟨RX27, "grownBytes", "([B)[B"⟩
def YX27_grownBytes : eY := (yX27_grownBytes, cX27_grownBytes, 2, (Option.some (FieldType.array FieldType.byte)), [])
theorem mX27_grownBytes : e_ms YX27_grownBytes 1 := ⟨q3207, q453, q3208, by decide, by decide +kernel, (e_sig (by decide +kernel))⟩
theorem dX27_grownBytes_0 : decode cX27_grownBytes 0 = .ok (.iconst 2, 1) := dc_5 (by decide +kernel)
theorem dX27_grownBytes_1 : decode cX27_grownBytes 1 = .ok (.aload_n 0, 1) := dc_42 (by decide +kernel)
theorem dX27_grownBytes_2 : decode cX27_grownBytes 2 = .ok (.arraylength, 1) := dc_190 (by decide +kernel)
theorem dX27_grownBytes_3 : decode cX27_grownBytes 3 = .ok (.imul, 1) := dc_104 (by decide +kernel)
theorem dX27_grownBytes_4 : decode cX27_grownBytes 4 = .ok (.newarray .byte, 2) := dc_188_8 (by decide +kernel)
theorem dX27_grownBytes_6 : decode cX27_grownBytes 6 = .ok (.astore_n 1, 1) := dc_76 (by decide +kernel)
theorem dX27_grownBytes_7 : decode cX27_grownBytes 7 = .ok (.aload_n 0, 1) := dc_42 (by decide +kernel)
theorem dX27_grownBytes_8 : decode cX27_grownBytes 8 = .ok (.iconst 0, 1) := dc_3 (by decide +kernel)
theorem dX27_grownBytes_9 : decode cX27_grownBytes 9 = .ok (.aload_n 1, 1) := dc_43 (by decide +kernel)
theorem dX27_grownBytes_10 : decode cX27_grownBytes 10 = .ok (.iconst 0, 1) := dc_3 (by decide +kernel)
theorem dX27_grownBytes_11 : decode cX27_grownBytes 11 = .ok (.aload_n 0, 1) := dc_42 (by decide +kernel)
theorem dX27_grownBytes_12 : decode cX27_grownBytes 12 = .ok (.arraylength, 1) := dc_190 (by decide +kernel)
theorem dX27_grownBytes_13 : decode cX27_grownBytes 13 = .ok (.invokestatic 31, 3) := dc_184 (a := 0) (b := 31) (n := 31) (by decide +kernel)
theorem dX27_grownBytes_16 : decode cX27_grownBytes 16 = .ok (.aload_n 1, 1) := dc_43 (by decide +kernel)
theorem dX27_grownBytes_17 : decode cX27_grownBytes 17 = .ok (.areturn, 1) := dc_176 (by decide +kernel)
def fX27_grownBytes (p0 : Nat) (h : eH) : Option (Nat × eH) :=
  (a_len h p0).bind fun x1 =>
  (n_arr 102 183 (.int 0) h ((2 : Int32) * x1)).bind fun q3 =>
  (a_len q3.2 p0).bind fun x5 =>
  (a_cpy q3.2 p0 (0 : Int32) q3.1 (0 : Int32) x5).bind fun h7 =>
  some (q3.1, h7)
theorem pX27_grownBytes {w : eW} {d : Nat} (hd : 1 ≤ d) {p0 : Nat} {h : eH} {q} (hf : fX27_grownBytes p0 h = some q) : wm w d YX27_grownBytes [.ref p0] h (e_is (e_rn c_A q)) := by
  obtain ⟨d, rfl⟩ : ∃ e, d = e + 1 := ⟨d - 1, by omega⟩
  show wp w (d + 1) YX27_grownBytes 0 [some (.ref p0), none] [] h _
  unfold fX27_grownBytes at hf
  refine w_iconst dX27_grownBytes_0 (v := 2) (by decide) ?_
  refine w_aload_n dX27_grownBytes_1 rfl rfl ?_
  obtain ⟨x1, b2, hf⟩ := Option.bind_eq_some_iff.mp hf
  refine x_len b2 dX27_grownBytes_2 ?_
  refine w_imul dX27_grownBytes_3 ?_
  obtain ⟨q3, b4, hf⟩ := Option.bind_eq_some_iff.mp hf
  refine x_newB (g := 183) b4 dX27_grownBytes_4 q507 ?_
  refine w_astore_n dX27_grownBytes_6 rfl (by decide) (ls' := [some (.ref p0), some (.ref q3.1)]) rfl ?_
  refine w_aload_n dX27_grownBytes_7 rfl rfl ?_
  refine w_iconst dX27_grownBytes_8 (v := 0) (by decide) ?_
  refine w_aload_n dX27_grownBytes_9 rfl rfl ?_
  refine w_iconst dX27_grownBytes_10 (v := 0) (by decide) ?_
  refine w_aload_n dX27_grownBytes_11 rfl rfl ?_
  obtain ⟨x5, b6, hf⟩ := Option.bind_eq_some_iff.mp hf
  refine x_len b6 dX27_grownBytes_12 ?_
  obtain ⟨h7, b8, hf⟩ := Option.bind_eq_some_iff.mp hf
  refine x_cpy b8 dX27_grownBytes_13 q3209 q955 q954 q441 (Nat.le_of_ble_eq_true rfl) ?_
  refine w_aload_n dX27_grownBytes_16 rfl rfl ?_
  cases hf
  exact w_aret dX27_grownBytes_17 rfl (Or.inr ⟨_, rfl⟩) (Or.inr ⟨_, rfl⟩) rfl
abbrev cX27_add : ByteArray := prog_22_method_3_code
def yX27_add : MethodName := ⟨RX27, "add", "(IIIIII)V"⟩
def YX27_add : eY := (yX27_add, cX27_add, 7, none, [])
theorem mX27_add : e_mv YX27_add RX27 6 := ⟨q3203, q3204, q3205, by decide, by decide +kernel, (e_sig (by decide +kernel))⟩
theorem dX27_add_0 : decode cX27_add 0 = .ok (.aload_n 0, 1) := dc_42 (by decide +kernel)
theorem dX27_add_1 : decode cX27_add 1 = .ok (.getfield 37, 3) := dc_180 (a := 0) (b := 37) (n := 37) (by decide +kernel)
theorem dX27_add_4 : decode cX27_add 4 = .ok (.aload_n 0, 1) := dc_42 (by decide +kernel)
theorem dX27_add_5 : decode cX27_add 5 = .ok (.getfield 9, 3) := dc_180 (a := 0) (b := 9) (n := 9) (by decide +kernel)
theorem dX27_add_8 : decode cX27_add 8 = .ok (.arraylength, 1) := dc_190 (by decide +kernel)
theorem dX27_add_9 : decode cX27_add 9 = .ok (.if_icmp .ne 89, 3) := dc_160 (a := 0) (b := 89) (v := 89) (by decide +kernel)
theorem dX27_add_12 : decode cX27_add 12 = .ok (.aload_n 0, 1) := dc_42 (by decide +kernel)
theorem dX27_add_13 : decode cX27_add 13 = .ok (.aload_n 0, 1) := dc_42 (by decide +kernel)
theorem dX27_add_14 : decode cX27_add 14 = .ok (.getfield 9, 3) := dc_180 (a := 0) (b := 9) (n := 9) (by decide +kernel)
theorem dX27_add_17 : decode cX27_add 17 = .ok (.invokestatic 41, 3) := dc_184 (a := 0) (b := 41) (n := 41) (by decide +kernel)
theorem dX27_add_20 : decode cX27_add 20 = .ok (.putfield 9, 3) := dc_181 (a := 0) (b := 9) (n := 9) (by decide +kernel)
theorem dX27_add_23 : decode cX27_add 23 = .ok (.aload_n 0, 1) := dc_42 (by decide +kernel)
theorem dX27_add_24 : decode cX27_add 24 = .ok (.aload_n 0, 1) := dc_42 (by decide +kernel)
theorem dX27_add_25 : decode cX27_add 25 = .ok (.getfield 25, 3) := dc_180 (a := 0) (b := 25) (n := 25) (by decide +kernel)
theorem dX27_add_28 : decode cX27_add 28 = .ok (.invokestatic 41, 3) := dc_184 (a := 0) (b := 41) (n := 41) (by decide +kernel)
theorem dX27_add_31 : decode cX27_add 31 = .ok (.putfield 25, 3) := dc_181 (a := 0) (b := 25) (n := 25) (by decide +kernel)
theorem dX27_add_34 : decode cX27_add 34 = .ok (.aload_n 0, 1) := dc_42 (by decide +kernel)
theorem dX27_add_35 : decode cX27_add 35 = .ok (.aload_n 0, 1) := dc_42 (by decide +kernel)
theorem dX27_add_36 : decode cX27_add 36 = .ok (.getfield 15, 3) := dc_180 (a := 0) (b := 15) (n := 15) (by decide +kernel)
theorem dX27_add_39 : decode cX27_add 39 = .ok (.aload_n 0, 1) := dc_42 (by decide +kernel)
theorem dX27_add_40 : decode cX27_add 40 = .ok (.getfield 9, 3) := dc_180 (a := 0) (b := 9) (n := 9) (by decide +kernel)
theorem dX27_add_43 : decode cX27_add 43 = .ok (.arraylength, 1) := dc_190 (by decide +kernel)
theorem dX27_add_44 : decode cX27_add 44 = .ok (.invokestatic 45, 3) := dc_184 (a := 0) (b := 45) (n := 45) (by decide +kernel)
theorem dX27_add_47 : decode cX27_add 47 = .ok (.putfield 15, 3) := dc_181 (a := 0) (b := 15) (n := 15) (by decide +kernel)
theorem dX27_add_50 : decode cX27_add 50 = .ok (.aload_n 0, 1) := dc_42 (by decide +kernel)
theorem dX27_add_51 : decode cX27_add 51 = .ok (.aload_n 0, 1) := dc_42 (by decide +kernel)
theorem dX27_add_52 : decode cX27_add 52 = .ok (.getfield 19, 3) := dc_180 (a := 0) (b := 19) (n := 19) (by decide +kernel)
theorem dX27_add_55 : decode cX27_add 55 = .ok (.aload_n 0, 1) := dc_42 (by decide +kernel)
theorem dX27_add_56 : decode cX27_add 56 = .ok (.getfield 9, 3) := dc_180 (a := 0) (b := 9) (n := 9) (by decide +kernel)
theorem dX27_add_59 : decode cX27_add 59 = .ok (.arraylength, 1) := dc_190 (by decide +kernel)
theorem dX27_add_60 : decode cX27_add 60 = .ok (.invokestatic 45, 3) := dc_184 (a := 0) (b := 45) (n := 45) (by decide +kernel)
theorem dX27_add_63 : decode cX27_add 63 = .ok (.putfield 19, 3) := dc_181 (a := 0) (b := 19) (n := 19) (by decide +kernel)
theorem dX27_add_66 : decode cX27_add 66 = .ok (.aload_n 0, 1) := dc_42 (by decide +kernel)
theorem dX27_add_67 : decode cX27_add 67 = .ok (.aload_n 0, 1) := dc_42 (by decide +kernel)
theorem dX27_add_68 : decode cX27_add 68 = .ok (.getfield 22, 3) := dc_180 (a := 0) (b := 22) (n := 22) (by decide +kernel)
theorem dX27_add_71 : decode cX27_add 71 = .ok (.aload_n 0, 1) := dc_42 (by decide +kernel)
theorem dX27_add_72 : decode cX27_add 72 = .ok (.getfield 9, 3) := dc_180 (a := 0) (b := 9) (n := 9) (by decide +kernel)
theorem dX27_add_75 : decode cX27_add 75 = .ok (.arraylength, 1) := dc_190 (by decide +kernel)
theorem dX27_add_76 : decode cX27_add 76 = .ok (.invokestatic 45, 3) := dc_184 (a := 0) (b := 45) (n := 45) (by decide +kernel)
theorem dX27_add_79 : decode cX27_add 79 = .ok (.putfield 22, 3) := dc_181 (a := 0) (b := 22) (n := 22) (by decide +kernel)
theorem dX27_add_82 : decode cX27_add 82 = .ok (.aload_n 0, 1) := dc_42 (by decide +kernel)
theorem dX27_add_83 : decode cX27_add 83 = .ok (.aload_n 0, 1) := dc_42 (by decide +kernel)
theorem dX27_add_84 : decode cX27_add 84 = .ok (.getfield 28, 3) := dc_180 (a := 0) (b := 28) (n := 28) (by decide +kernel)
theorem dX27_add_87 : decode cX27_add 87 = .ok (.aload_n 0, 1) := dc_42 (by decide +kernel)
theorem dX27_add_88 : decode cX27_add 88 = .ok (.getfield 9, 3) := dc_180 (a := 0) (b := 9) (n := 9) (by decide +kernel)
theorem dX27_add_91 : decode cX27_add 91 = .ok (.arraylength, 1) := dc_190 (by decide +kernel)
theorem dX27_add_92 : decode cX27_add 92 = .ok (.invokestatic 45, 3) := dc_184 (a := 0) (b := 45) (n := 45) (by decide +kernel)
theorem dX27_add_95 : decode cX27_add 95 = .ok (.putfield 28, 3) := dc_181 (a := 0) (b := 28) (n := 28) (by decide +kernel)
theorem dX27_add_98 : decode cX27_add 98 = .ok (.aload_n 0, 1) := dc_42 (by decide +kernel)
theorem dX27_add_99 : decode cX27_add 99 = .ok (.getfield 9, 3) := dc_180 (a := 0) (b := 9) (n := 9) (by decide +kernel)
theorem dX27_add_102 : decode cX27_add 102 = .ok (.aload_n 0, 1) := dc_42 (by decide +kernel)
theorem dX27_add_103 : decode cX27_add 103 = .ok (.getfield 37, 3) := dc_180 (a := 0) (b := 37) (n := 37) (by decide +kernel)
theorem dX27_add_106 : decode cX27_add 106 = .ok (.iload_n 1, 1) := dc_27 (by decide +kernel)
theorem dX27_add_107 : decode cX27_add 107 = .ok (.i2b, 1) := dc_145 (by decide +kernel)
theorem dX27_add_108 : decode cX27_add 108 = .ok (.bastore, 1) := dc_84 (by decide +kernel)
theorem dX27_add_109 : decode cX27_add 109 = .ok (.aload_n 0, 1) := dc_42 (by decide +kernel)
theorem dX27_add_110 : decode cX27_add 110 = .ok (.getfield 15, 3) := dc_180 (a := 0) (b := 15) (n := 15) (by decide +kernel)
theorem dX27_add_113 : decode cX27_add 113 = .ok (.aload_n 0, 1) := dc_42 (by decide +kernel)
theorem dX27_add_114 : decode cX27_add 114 = .ok (.getfield 37, 3) := dc_180 (a := 0) (b := 37) (n := 37) (by decide +kernel)
theorem dX27_add_117 : decode cX27_add 117 = .ok (.iload_n 2, 1) := dc_28 (by decide +kernel)
theorem dX27_add_118 : decode cX27_add 118 = .ok (.iastore, 1) := dc_79 (by decide +kernel)
theorem dX27_add_119 : decode cX27_add 119 = .ok (.aload_n 0, 1) := dc_42 (by decide +kernel)
theorem dX27_add_120 : decode cX27_add 120 = .ok (.getfield 19, 3) := dc_180 (a := 0) (b := 19) (n := 19) (by decide +kernel)
theorem dX27_add_123 : decode cX27_add 123 = .ok (.aload_n 0, 1) := dc_42 (by decide +kernel)
theorem dX27_add_124 : decode cX27_add 124 = .ok (.getfield 37, 3) := dc_180 (a := 0) (b := 37) (n := 37) (by decide +kernel)
theorem dX27_add_127 : decode cX27_add 127 = .ok (.iload_n 3, 1) := dc_29 (by decide +kernel)
theorem dX27_add_128 : decode cX27_add 128 = .ok (.iastore, 1) := dc_79 (by decide +kernel)
theorem dX27_add_129 : decode cX27_add 129 = .ok (.aload_n 0, 1) := dc_42 (by decide +kernel)
theorem dX27_add_130 : decode cX27_add 130 = .ok (.getfield 22, 3) := dc_180 (a := 0) (b := 22) (n := 22) (by decide +kernel)
theorem dX27_add_133 : decode cX27_add 133 = .ok (.aload_n 0, 1) := dc_42 (by decide +kernel)
theorem dX27_add_134 : decode cX27_add 134 = .ok (.getfield 37, 3) := dc_180 (a := 0) (b := 37) (n := 37) (by decide +kernel)
theorem dX27_add_137 : decode cX27_add 137 = .ok (.iload 4, 2) := dc_21 (a := 4) (by decide +kernel)
theorem dX27_add_139 : decode cX27_add 139 = .ok (.iastore, 1) := dc_79 (by decide +kernel)
theorem dX27_add_140 : decode cX27_add 140 = .ok (.aload_n 0, 1) := dc_42 (by decide +kernel)
theorem dX27_add_141 : decode cX27_add 141 = .ok (.getfield 25, 3) := dc_180 (a := 0) (b := 25) (n := 25) (by decide +kernel)
theorem dX27_add_144 : decode cX27_add 144 = .ok (.aload_n 0, 1) := dc_42 (by decide +kernel)
theorem dX27_add_145 : decode cX27_add 145 = .ok (.getfield 37, 3) := dc_180 (a := 0) (b := 37) (n := 37) (by decide +kernel)
theorem dX27_add_148 : decode cX27_add 148 = .ok (.iload 5, 2) := dc_21 (a := 5) (by decide +kernel)
theorem dX27_add_150 : decode cX27_add 150 = .ok (.i2b, 1) := dc_145 (by decide +kernel)
theorem dX27_add_151 : decode cX27_add 151 = .ok (.bastore, 1) := dc_84 (by decide +kernel)
theorem dX27_add_152 : decode cX27_add 152 = .ok (.aload_n 0, 1) := dc_42 (by decide +kernel)
theorem dX27_add_153 : decode cX27_add 153 = .ok (.getfield 28, 3) := dc_180 (a := 0) (b := 28) (n := 28) (by decide +kernel)
theorem dX27_add_156 : decode cX27_add 156 = .ok (.aload_n 0, 1) := dc_42 (by decide +kernel)
theorem dX27_add_157 : decode cX27_add 157 = .ok (.getfield 37, 3) := dc_180 (a := 0) (b := 37) (n := 37) (by decide +kernel)
theorem dX27_add_160 : decode cX27_add 160 = .ok (.iload 6, 2) := dc_21 (a := 6) (by decide +kernel)
theorem dX27_add_162 : decode cX27_add 162 = .ok (.iastore, 1) := dc_79 (by decide +kernel)
theorem dX27_add_163 : decode cX27_add 163 = .ok (.aload_n 0, 1) := dc_42 (by decide +kernel)
theorem dX27_add_164 : decode cX27_add 164 = .ok (.dup, 1) := dc_89 (by decide +kernel)
theorem dX27_add_165 : decode cX27_add 165 = .ok (.getfield 37, 3) := dc_180 (a := 0) (b := 37) (n := 37) (by decide +kernel)
theorem dX27_add_168 : decode cX27_add 168 = .ok (.iconst 1, 1) := dc_4 (by decide +kernel)
theorem dX27_add_169 : decode cX27_add 169 = .ok (.iadd, 1) := dc_96 (by decide +kernel)
theorem dX27_add_170 : decode cX27_add 170 = .ok (.putfield 37, 3) := dc_181 (a := 0) (b := 37) (n := 37) (by decide +kernel)
theorem dX27_add_173 : decode cX27_add 173 = .ok (.return_, 1) := dc_177 (by decide +kernel)
theorem GX27_15 {w : eW} {d : Nat} {Y : eY} {pc : Nat} {ls : eL} {st : List Value} {h : eH} {Q : eO → eH → Prop} {a : Nat} {x : Nat} (hf : g_A 26 h a 1 = some x) (hd : decode Y.2.1 pc = .ok (.getfield 15, 3)) (hY : Y.1.cls = RX27) (kk : wp w d Y (pc + 3) ls (.ref x :: st) h Q) : wp w d Y pc ls (.ref a :: st) h Q := x_gA (ci := 26) (k := 1) hf hd rfl (by decide) (by rw [hY]; exact q1494) kk
theorem GX27_19 {w : eW} {d : Nat} {Y : eY} {pc : Nat} {ls : eL} {st : List Value} {h : eH} {Q : eO → eH → Prop} {a : Nat} {x : Nat} (hf : g_A 26 h a 2 = some x) (hd : decode Y.2.1 pc = .ok (.getfield 19, 3)) (hY : Y.1.cls = RX27) (kk : wp w d Y (pc + 3) ls (.ref x :: st) h Q) : wp w d Y pc ls (.ref a :: st) h Q := x_gA (ci := 26) (k := 2) hf hd rfl (by decide) (by rw [hY]; exact q1498) kk
theorem GX27_22 {w : eW} {d : Nat} {Y : eY} {pc : Nat} {ls : eL} {st : List Value} {h : eH} {Q : eO → eH → Prop} {a : Nat} {x : Nat} (hf : g_A 26 h a 3 = some x) (hd : decode Y.2.1 pc = .ok (.getfield 22, 3)) (hY : Y.1.cls = RX27) (kk : wp w d Y (pc + 3) ls (.ref x :: st) h Q) : wp w d Y pc ls (.ref a :: st) h Q := x_gA (ci := 26) (k := 3) hf hd rfl (by decide) (by rw [hY]; exact q1502) kk
theorem GX27_25 {w : eW} {d : Nat} {Y : eY} {pc : Nat} {ls : eL} {st : List Value} {h : eH} {Q : eO → eH → Prop} {a : Nat} {x : Nat} (hf : g_A 26 h a 4 = some x) (hd : decode Y.2.1 pc = .ok (.getfield 25, 3)) (hY : Y.1.cls = RX27) (kk : wp w d Y (pc + 3) ls (.ref x :: st) h Q) : wp w d Y pc ls (.ref a :: st) h Q := x_gA (ci := 26) (k := 4) hf hd rfl (by decide) (by rw [hY]; exact q1505) kk
theorem GX27_28 {w : eW} {d : Nat} {Y : eY} {pc : Nat} {ls : eL} {st : List Value} {h : eH} {Q : eO → eH → Prop} {a : Nat} {x : Nat} (hf : g_A 26 h a 5 = some x) (hd : decode Y.2.1 pc = .ok (.getfield 28, 3)) (hY : Y.1.cls = RX27) (kk : wp w d Y (pc + 3) ls (.ref x :: st) h Q) : wp w d Y pc ls (.ref a :: st) h Q := x_gA (ci := 26) (k := 5) hf hd rfl (by decide) (by rw [hY]; exact q1507) kk
theorem GX27_37 {w : eW} {d : Nat} {Y : eY} {pc : Nat} {ls : eL} {st : List Value} {h : eH} {Q : eO → eH → Prop} {a : Nat} {x : Int32} (hf : g_I 26 h a 6 = some x) (hd : decode Y.2.1 pc = .ok (.getfield 37, 3)) (hY : Y.1.cls = RX27) (kk : wp w d Y (pc + 3) ls (.int x :: st) h Q) : wp w d Y pc ls (.ref a :: st) h Q := x_gI (ci := 26) (k := 6) hf hd rfl (by decide) (by rw [hY]; exact q1510) kk
theorem GX27_9 {w : eW} {d : Nat} {Y : eY} {pc : Nat} {ls : eL} {st : List Value} {h : eH} {Q : eO → eH → Prop} {a : Nat} {x : Nat} (hf : g_A 26 h a 0 = some x) (hd : decode Y.2.1 pc = .ok (.getfield 9, 3)) (hY : Y.1.cls = RX27) (kk : wp w d Y (pc + 3) ls (.ref x :: st) h Q) : wp w d Y pc ls (.ref a :: st) h Q := x_gA (ci := 26) (k := 0) hf hd rfl (by decide) (by rw [hY]; exact q1491) kk
theorem SX27_37 {w : eW} {d : Nat} {Y : eY} {pc : Nat} {ls : eL} {st : List Value} {h : eH} {Q : eO → eH → Prop} {a : Nat} {h' : eH} {x : Int32} (hf : p_V 26 h a 6 (.int x) = some h') (hd : decode Y.2.1 pc = .ok (.putfield 37, 3)) (hY : Y.1.cls = RX27) (kk : wp w d Y (pc + 3) ls st h' Q) : wp w d Y pc ls (.int x :: .ref a :: st) h Q := x_pI (ci := 26) (k := 6) hf hd rfl (by decide) (by rw [hY]; exact q1510) rfl rfl kk
def fX27_add_b98 (l0 : Nat) (l1 : Int32) (l2 : Int32) (l3 : Int32) (l4 : Int32) (l5 : Int32) (l6 : Int32) (h : eH) : Option (Unit × eH) :=
  (g_A 26 h l0 0).bind fun a1 =>
  (g_I 26 h l0 6).bind fun x3 =>
  (q_V 102 h a1 x3 (.int ((l1).toInt8.toInt32).toInt8.toInt32)).bind fun h5 =>
  (g_A 26 h5 l0 1).bind fun a7 =>
  (g_I 26 h5 l0 6).bind fun x9 =>
  (q_V 100 h5 a7 x9 (.int l2)).bind fun h11 =>
  (g_A 26 h11 l0 2).bind fun a13 =>
  (g_I 26 h11 l0 6).bind fun x15 =>
  (q_V 100 h11 a13 x15 (.int l3)).bind fun h17 =>
  (g_A 26 h17 l0 3).bind fun a19 =>
  (g_I 26 h17 l0 6).bind fun x21 =>
  (q_V 100 h17 a19 x21 (.int l4)).bind fun h23 =>
  (g_A 26 h23 l0 4).bind fun a25 =>
  (g_I 26 h23 l0 6).bind fun x27 =>
  (q_V 102 h23 a25 x27 (.int ((l5).toInt8.toInt32).toInt8.toInt32)).bind fun h29 =>
  (g_A 26 h29 l0 5).bind fun a31 =>
  (g_I 26 h29 l0 6).bind fun x33 =>
  (q_V 100 h29 a31 x33 (.int l6)).bind fun h35 =>
  (g_I 26 h35 l0 6).bind fun x37 =>
  (p_V 26 h35 l0 6 (.int (x37 + (1 : Int32)))).bind fun h39 =>
  some ((), h39)
theorem pX27_add_b98 {w : eW} {d : Nat} (hd : 2 ≤ d + 1) {l0 : Nat} {l1 : Int32} {l2 : Int32} {l3 : Int32} {l4 : Int32} {l5 : Int32} {l6 : Int32} {h : eH} {q} (hf : fX27_add_b98 l0 l1 l2 l3 l4 l5 l6 h = some q) : wp w (d + 1) YX27_add 98 [some (.ref l0), some (.int l1), some (.int l2), some (.int l3), some (.int l4), some (.int l5), some (.int l6)] [] h (e_is (e_rn c_V q)) := by
  unfold fX27_add_b98 at hf
  refine w_aload_n dX27_add_98 rfl rfl ?_
  obtain ⟨a1, b2, hf⟩ := Option.bind_eq_some_iff.mp hf
  refine GX27_9 b2 dX27_add_99 rfl ?_
  refine w_aload_n dX27_add_102 rfl rfl ?_
  obtain ⟨x3, b4, hf⟩ := Option.bind_eq_some_iff.mp hf
  refine GX27_37 b4 dX27_add_103 rfl ?_
  refine w_iload_n dX27_add_106 rfl rfl ?_
  refine w_i2b dX27_add_107 ?_
  obtain ⟨h5, b6, hf⟩ := Option.bind_eq_some_iff.mp hf
  refine x_qB b6 dX27_add_108 ?_
  refine w_aload_n dX27_add_109 rfl rfl ?_
  obtain ⟨a7, b8, hf⟩ := Option.bind_eq_some_iff.mp hf
  refine GX27_15 b8 dX27_add_110 rfl ?_
  refine w_aload_n dX27_add_113 rfl rfl ?_
  obtain ⟨x9, b10, hf⟩ := Option.bind_eq_some_iff.mp hf
  refine GX27_37 b10 dX27_add_114 rfl ?_
  refine w_iload_n dX27_add_117 rfl rfl ?_
  obtain ⟨h11, b12, hf⟩ := Option.bind_eq_some_iff.mp hf
  refine x_qI b12 dX27_add_118 ?_
  refine w_aload_n dX27_add_119 rfl rfl ?_
  obtain ⟨a13, b14, hf⟩ := Option.bind_eq_some_iff.mp hf
  refine GX27_19 b14 dX27_add_120 rfl ?_
  refine w_aload_n dX27_add_123 rfl rfl ?_
  obtain ⟨x15, b16, hf⟩ := Option.bind_eq_some_iff.mp hf
  refine GX27_37 b16 dX27_add_124 rfl ?_
  refine w_iload_n dX27_add_127 rfl rfl ?_
  obtain ⟨h17, b18, hf⟩ := Option.bind_eq_some_iff.mp hf
  refine x_qI b18 dX27_add_128 ?_
  refine w_aload_n dX27_add_129 rfl rfl ?_
  obtain ⟨a19, b20, hf⟩ := Option.bind_eq_some_iff.mp hf
  refine GX27_22 b20 dX27_add_130 rfl ?_
  refine w_aload_n dX27_add_133 rfl rfl ?_
  obtain ⟨x21, b22, hf⟩ := Option.bind_eq_some_iff.mp hf
  refine GX27_37 b22 dX27_add_134 rfl ?_
  refine w_iload dX27_add_137 rfl ?_
  obtain ⟨h23, b24, hf⟩ := Option.bind_eq_some_iff.mp hf
  refine x_qI b24 dX27_add_139 ?_
  refine w_aload_n dX27_add_140 rfl rfl ?_
  obtain ⟨a25, b26, hf⟩ := Option.bind_eq_some_iff.mp hf
  refine GX27_25 b26 dX27_add_141 rfl ?_
  refine w_aload_n dX27_add_144 rfl rfl ?_
  obtain ⟨x27, b28, hf⟩ := Option.bind_eq_some_iff.mp hf
  refine GX27_37 b28 dX27_add_145 rfl ?_
  refine w_iload dX27_add_148 rfl ?_
  refine w_i2b dX27_add_150 ?_
  obtain ⟨h29, b30, hf⟩ := Option.bind_eq_some_iff.mp hf
  refine x_qB b30 dX27_add_151 ?_
  refine w_aload_n dX27_add_152 rfl rfl ?_
  obtain ⟨a31, b32, hf⟩ := Option.bind_eq_some_iff.mp hf
  refine GX27_28 b32 dX27_add_153 rfl ?_
  refine w_aload_n dX27_add_156 rfl rfl ?_
  obtain ⟨x33, b34, hf⟩ := Option.bind_eq_some_iff.mp hf
  refine GX27_37 b34 dX27_add_157 rfl ?_
  refine w_iload dX27_add_160 rfl ?_
  obtain ⟨h35, b36, hf⟩ := Option.bind_eq_some_iff.mp hf
  refine x_qI b36 dX27_add_162 ?_
  refine w_aload_n dX27_add_163 rfl rfl ?_
  refine w_dup dX27_add_164 rfl ?_
  obtain ⟨x37, b38, hf⟩ := Option.bind_eq_some_iff.mp hf
  refine GX27_37 b38 dX27_add_165 rfl ?_
  refine w_iconst dX27_add_168 (v := 1) (by decide) ?_
  refine w_iadd dX27_add_169 ?_
  obtain ⟨h39, b40, hf⟩ := Option.bind_eq_some_iff.mp hf
  refine SX27_37 b40 dX27_add_170 rfl ?_
  cases hf
  exact w_vret dX27_add_173 rfl rfl
def fX27_add (this : Nat) (p0 : Int32) (p1 : Int32) (p2 : Int32) (p3 : Int32) (p4 : Int32) (p5 : Int32) (h : eH) : Option (Unit × eH) :=
  (g_I 26 h this 6).bind fun x1 =>
  (g_A 26 h this 0).bind fun a3 =>
  (a_len h a3).bind fun x5 =>
  if ¬ x1 = x5 then
    fX27_add_b98 this p0 p1 p2 p3 p4 p5 h
  else
    (g_A 26 h this 0).bind fun a8 =>
    (fX27_grownBytes a8 h).bind fun q10 =>
    (p_V 26 q10.2 this 0 (.ref q10.1)).bind fun h11 =>
    (g_A 26 h11 this 4).bind fun a13 =>
    (fX27_grownBytes a13 h11).bind fun q15 =>
    (p_V 26 q15.2 this 4 (.ref q15.1)).bind fun h16 =>
    (g_A 26 h16 this 1).bind fun a18 =>
    (g_A 26 h16 this 0).bind fun a20 =>
    (a_len h16 a20).bind fun x22 =>
    (fX1_grown a18 x22 h16).bind fun q24 =>
    (p_V 26 q24.2 this 1 (.ref q24.1)).bind fun h25 =>
    (g_A 26 h25 this 2).bind fun a27 =>
    (g_A 26 h25 this 0).bind fun a29 =>
    (a_len h25 a29).bind fun x31 =>
    (fX1_grown a27 x31 h25).bind fun q33 =>
    (p_V 26 q33.2 this 2 (.ref q33.1)).bind fun h34 =>
    (g_A 26 h34 this 3).bind fun a36 =>
    (g_A 26 h34 this 0).bind fun a38 =>
    (a_len h34 a38).bind fun x40 =>
    (fX1_grown a36 x40 h34).bind fun q42 =>
    (p_V 26 q42.2 this 3 (.ref q42.1)).bind fun h43 =>
    (g_A 26 h43 this 5).bind fun a45 =>
    (g_A 26 h43 this 0).bind fun a47 =>
    (a_len h43 a47).bind fun x49 =>
    (fX1_grown a45 x49 h43).bind fun q51 =>
    (p_V 26 q51.2 this 5 (.ref q51.1)).bind fun h52 =>
    fX27_add_b98 this p0 p1 p2 p3 p4 p5 h52
theorem pX27_add {w : eW} {d : Nat} (hd : 2 ≤ d) {this : Nat} {p0 : Int32} {p1 : Int32} {p2 : Int32} {p3 : Int32} {p4 : Int32} {p5 : Int32} {h : eH} {q} (hf : fX27_add this p0 p1 p2 p3 p4 p5 h = some q) : wm w d YX27_add [.ref this, .int p0, .int p1, .int p2, .int p3, .int p4, .int p5] h (e_is (e_rn c_V q)) := by
  obtain ⟨d, rfl⟩ : ∃ e, d = e + 1 := ⟨d - 1, by omega⟩
  show wp w (d + 1) YX27_add 0 [some (.ref this), some (.int p0), some (.int p1), some (.int p2), some (.int p3), some (.int p4), some (.int p5)] [] h _
  unfold fX27_add at hf
  refine w_aload_n dX27_add_0 rfl rfl ?_
  obtain ⟨x1, b2, hf⟩ := Option.bind_eq_some_iff.mp hf
  refine GX27_37 b2 dX27_add_1 rfl ?_
  refine w_aload_n dX27_add_4 rfl rfl ?_
  obtain ⟨a3, b4, hf⟩ := Option.bind_eq_some_iff.mp hf
  refine GX27_9 b4 dX27_add_5 rfl ?_
  obtain ⟨x5, b6, hf⟩ := Option.bind_eq_some_iff.mp hf
  refine x_len b6 dX27_add_8 ?_
  refine w_icmp_ne 98 dX27_add_9 (by decide) (fun c7 => ?_) (fun c7 => ?_)
  · replace hf := (if_pos (show ¬ x1 = x5 from c7)).symm.trans hf
    exact (pX27_add_b98 hd hf).to ⟨rfl, rfl, rfl, rfl, rfl, rfl, rfl, trivial⟩
  · replace hf := (if_neg (show ¬ (¬ x1 = x5) from (fun z => z c7))).symm.trans hf
    refine w_aload_n dX27_add_12 rfl rfl ?_
    refine w_aload_n dX27_add_13 rfl rfl ?_
    obtain ⟨a8, b9, hf⟩ := Option.bind_eq_some_iff.mp hf
    refine GX27_9 b9 dX27_add_14 rfl ?_
    refine x_cnA hf (e_stS (Yc := YX27_grownBytes) (av := [.ref a8]) (st := [.ref this]) dX27_add_17 q3206 mX27_grownBytes) mX27_grownBytes.2.2.1 mX27_grownBytes.2.2.2.2.1 (Nat.le_of_ble_eq_true rfl) (Nat.le_of_ble_eq_true rfl) (fun q hq => pX27_grownBytes (by omega) hq) (fun q10 hf => ?_)
    obtain ⟨h11, b12, hf⟩ := Option.bind_eq_some_iff.mp hf
    refine SX27_9 b12 dX27_add_20 rfl ?_
    refine w_aload_n dX27_add_23 rfl rfl ?_
    refine w_aload_n dX27_add_24 rfl rfl ?_
    obtain ⟨a13, b14, hf⟩ := Option.bind_eq_some_iff.mp hf
    refine GX27_25 b14 dX27_add_25 rfl ?_
    refine x_cnA hf (e_stS (Yc := YX27_grownBytes) (av := [.ref a13]) (st := [.ref this]) dX27_add_28 q3206 mX27_grownBytes) mX27_grownBytes.2.2.1 mX27_grownBytes.2.2.2.2.1 (Nat.le_of_ble_eq_true rfl) (Nat.le_of_ble_eq_true rfl) (fun q hq => pX27_grownBytes (by omega) hq) (fun q15 hf => ?_)
    obtain ⟨h16, b17, hf⟩ := Option.bind_eq_some_iff.mp hf
    refine SX27_25 b17 dX27_add_31 rfl ?_
    refine w_aload_n dX27_add_34 rfl rfl ?_
    refine w_aload_n dX27_add_35 rfl rfl ?_
    obtain ⟨a18, b19, hf⟩ := Option.bind_eq_some_iff.mp hf
    refine GX27_15 b19 dX27_add_36 rfl ?_
    refine w_aload_n dX27_add_39 rfl rfl ?_
    obtain ⟨a20, b21, hf⟩ := Option.bind_eq_some_iff.mp hf
    refine GX27_9 b21 dX27_add_40 rfl ?_
    obtain ⟨x22, b23, hf⟩ := Option.bind_eq_some_iff.mp hf
    refine x_len b23 dX27_add_43 ?_
    refine x_cnA hf (e_stSN (Yc := YX1_grown) (av := [.ref a18, .int x22]) (st := [.ref this]) dX27_add_44 q3210 mX1_grown) mX1_grown.2.2.1 mX1_grown.2.2.2.2.1 (Nat.le_of_ble_eq_true rfl) (Nat.le_of_ble_eq_true rfl) (fun q hq => pX1_grown (by omega) hq) (fun q24 hf => ?_)
    obtain ⟨h25, b26, hf⟩ := Option.bind_eq_some_iff.mp hf
    refine SX27_15 b26 dX27_add_47 rfl ?_
    refine w_aload_n dX27_add_50 rfl rfl ?_
    refine w_aload_n dX27_add_51 rfl rfl ?_
    obtain ⟨a27, b28, hf⟩ := Option.bind_eq_some_iff.mp hf
    refine GX27_19 b28 dX27_add_52 rfl ?_
    refine w_aload_n dX27_add_55 rfl rfl ?_
    obtain ⟨a29, b30, hf⟩ := Option.bind_eq_some_iff.mp hf
    refine GX27_9 b30 dX27_add_56 rfl ?_
    obtain ⟨x31, b32, hf⟩ := Option.bind_eq_some_iff.mp hf
    refine x_len b32 dX27_add_59 ?_
    refine x_cnA hf (e_stSN (Yc := YX1_grown) (av := [.ref a27, .int x31]) (st := [.ref this]) dX27_add_60 q3210 mX1_grown) mX1_grown.2.2.1 mX1_grown.2.2.2.2.1 (Nat.le_of_ble_eq_true rfl) (Nat.le_of_ble_eq_true rfl) (fun q hq => pX1_grown (by omega) hq) (fun q33 hf => ?_)
    obtain ⟨h34, b35, hf⟩ := Option.bind_eq_some_iff.mp hf
    refine SX27_19 b35 dX27_add_63 rfl ?_
    refine w_aload_n dX27_add_66 rfl rfl ?_
    refine w_aload_n dX27_add_67 rfl rfl ?_
    obtain ⟨a36, b37, hf⟩ := Option.bind_eq_some_iff.mp hf
    refine GX27_22 b37 dX27_add_68 rfl ?_
    refine w_aload_n dX27_add_71 rfl rfl ?_
    obtain ⟨a38, b39, hf⟩ := Option.bind_eq_some_iff.mp hf
    refine GX27_9 b39 dX27_add_72 rfl ?_
    obtain ⟨x40, b41, hf⟩ := Option.bind_eq_some_iff.mp hf
    refine x_len b41 dX27_add_75 ?_
    refine x_cnA hf (e_stSN (Yc := YX1_grown) (av := [.ref a36, .int x40]) (st := [.ref this]) dX27_add_76 q3210 mX1_grown) mX1_grown.2.2.1 mX1_grown.2.2.2.2.1 (Nat.le_of_ble_eq_true rfl) (Nat.le_of_ble_eq_true rfl) (fun q hq => pX1_grown (by omega) hq) (fun q42 hf => ?_)
    obtain ⟨h43, b44, hf⟩ := Option.bind_eq_some_iff.mp hf
    refine SX27_22 b44 dX27_add_79 rfl ?_
    refine w_aload_n dX27_add_82 rfl rfl ?_
    refine w_aload_n dX27_add_83 rfl rfl ?_
    obtain ⟨a45, b46, hf⟩ := Option.bind_eq_some_iff.mp hf
    refine GX27_28 b46 dX27_add_84 rfl ?_
    refine w_aload_n dX27_add_87 rfl rfl ?_
    obtain ⟨a47, b48, hf⟩ := Option.bind_eq_some_iff.mp hf
    refine GX27_9 b48 dX27_add_88 rfl ?_
    obtain ⟨x49, b50, hf⟩ := Option.bind_eq_some_iff.mp hf
    refine x_len b50 dX27_add_91 ?_
    refine x_cnA hf (e_stSN (Yc := YX1_grown) (av := [.ref a45, .int x49]) (st := [.ref this]) dX27_add_92 q3210 mX1_grown) mX1_grown.2.2.1 mX1_grown.2.2.2.2.1 (Nat.le_of_ble_eq_true rfl) (Nat.le_of_ble_eq_true rfl) (fun q hq => pX1_grown (by omega) hq) (fun q51 hf => ?_)
    obtain ⟨h52, b53, hf⟩ := Option.bind_eq_some_iff.mp hf
    refine SX27_28 b53 dX27_add_95 rfl ?_
    exact (pX27_add_b98 hd hf).to ⟨rfl, rfl, rfl, rfl, rfl, rfl, rfl, trivial⟩
abbrev cX27_kind : ByteArray := prog_22_method_4_code
def yX27_kind : MethodName := ⟨RX27, "kind", "(I)I"⟩
def YX27_kind : eY := (yX27_kind, cX27_kind, 2, (Option.some FieldType.int), [])
theorem mX27_kind : e_mv YX27_kind RX27 1 := ⟨q3222, q3223, q3224, by decide, by decide +kernel, (e_sig (by decide +kernel))⟩
theorem dX27_kind_0 : decode cX27_kind 0 = .ok (.iload_n 1, 1) := dc_27 (by decide +kernel)
theorem dX27_kind_1 : decode cX27_kind 1 = .ok (.ifCond .lt 20, 3) := dc_155 (a := 0) (b := 20) (v := 20) (by decide +kernel)
theorem dX27_kind_4 : decode cX27_kind 4 = .ok (.iload_n 1, 1) := dc_27 (by decide +kernel)
theorem dX27_kind_5 : decode cX27_kind 5 = .ok (.aload_n 0, 1) := dc_42 (by decide +kernel)
theorem dX27_kind_6 : decode cX27_kind 6 = .ok (.getfield 37, 3) := dc_180 (a := 0) (b := 37) (n := 37) (by decide +kernel)
theorem dX27_kind_9 : decode cX27_kind 9 = .ok (.if_icmp .ge 12, 3) := dc_162 (a := 0) (b := 12) (v := 12) (by decide +kernel)
theorem dX27_kind_12 : decode cX27_kind 12 = .ok (.aload_n 0, 1) := dc_42 (by decide +kernel)
theorem dX27_kind_13 : decode cX27_kind 13 = .ok (.getfield 9, 3) := dc_180 (a := 0) (b := 9) (n := 9) (by decide +kernel)
theorem dX27_kind_16 : decode cX27_kind 16 = .ok (.iload_n 1, 1) := dc_27 (by decide +kernel)
theorem dX27_kind_17 : decode cX27_kind 17 = .ok (.baload, 1) := dc_51 (by decide +kernel)
theorem dX27_kind_18 : decode cX27_kind 18 = .ok (.goto 4, 3) := dc_167 (a := 0) (b := 4) (v := 4) (by decide +kernel)
theorem dX27_kind_21 : decode cX27_kind 21 = .ok (.iconst (-1), 1) := dc_2 (by decide +kernel)
theorem dX27_kind_22 : decode cX27_kind 22 = .ok (.ireturn, 1) := dc_172 (by decide +kernel)
def fX27_kind_b22 (s0 : Int32) (h : eH) : Option (Int32 × eH) :=
  some (s0, h)
theorem pX27_kind_b22 {w : eW} {d : Nat} (hd : 0 ≤ d) {s0 : Int32} {h : eH} {q} (hf : fX27_kind_b22 s0 h = some q) : wp w d YX27_kind 22 [none, none] [.int s0] h (e_is (e_rn c_I q)) := by
  unfold fX27_kind_b22 at hf
  cases hf
  exact w_iret dX27_kind_22 rfl rfl rfl
def fX27_kind_b21  (h : eH) : Option (Int32 × eH) :=
  fX27_kind_b22 (-1 : Int32) h
theorem pX27_kind_b21 {w : eW} {d : Nat} (hd : 0 ≤ d)  {h : eH} {q} (hf : fX27_kind_b21  h = some q) : wp w d YX27_kind 21 [none, none] [] h (e_is (e_rn c_I q)) := by
  unfold fX27_kind_b21 at hf
  refine w_iconst dX27_kind_21 (v := -1) (by decide) ?_
  exact (pX27_kind_b22 hd hf).to trivial
def fX27_kind (this : Nat) (p0 : Int32) (h : eH) : Option (Int32 × eH) :=
  if p0 < 0 then
    fX27_kind_b21 h
  else
    (g_I 26 h this 6).bind fun x2 =>
    if x2 ≤ p0 then
      fX27_kind_b21 h
    else
      (g_A 26 h this 0).bind fun a5 =>
      (r_I 102 h a5 p0).bind fun x7 =>
      fX27_kind_b22 x7 h
theorem pX27_kind {w : eW} {d : Nat} (hd : 0 ≤ d) {this : Nat} {p0 : Int32} {h : eH} {q} (hf : fX27_kind this p0 h = some q) : wm w d YX27_kind [.ref this, .int p0] h (e_is (e_rn c_I q)) := by
  show wp w d YX27_kind 0 [some (.ref this), some (.int p0)] [] h _
  unfold fX27_kind at hf
  refine w_iload_n dX27_kind_0 rfl rfl ?_
  refine w_if_lt 21 dX27_kind_1 (by decide) (fun c1 => ?_) (fun c1 => ?_)
  · replace hf := (if_pos (show p0 < 0 from c1)).symm.trans hf
    exact (pX27_kind_b21 hd hf).to trivial
  · replace hf := (if_neg (show ¬ (p0 < 0) from c1)).symm.trans hf
    refine w_iload_n dX27_kind_4 rfl rfl ?_
    refine w_aload_n dX27_kind_5 rfl rfl ?_
    obtain ⟨x2, b3, hf⟩ := Option.bind_eq_some_iff.mp hf
    refine GX27_37 b3 dX27_kind_6 rfl ?_
    refine w_icmp_ge 21 dX27_kind_9 (by decide) (fun c4 => ?_) (fun c4 => ?_)
    · replace hf := (if_pos (show x2 ≤ p0 from c4)).symm.trans hf
      exact (pX27_kind_b21 hd hf).to trivial
    · replace hf := (if_neg (show ¬ (x2 ≤ p0) from c4)).symm.trans hf
      refine w_aload_n dX27_kind_12 rfl rfl ?_
      obtain ⟨a5, b6, hf⟩ := Option.bind_eq_some_iff.mp hf
      refine GX27_9 b6 dX27_kind_13 rfl ?_
      refine w_iload_n dX27_kind_16 rfl rfl ?_
      obtain ⟨x7, b8, hf⟩ := Option.bind_eq_some_iff.mp hf
      refine x_rB b8 dX27_kind_17 ?_
      refine w_goto 22 dX27_kind_18 (by decide) ?_
      exact (pX27_kind_b22 hd hf).to trivial
abbrev cX28_canStep : ByteArray := prog_21_method_9_code
def yX28_canStep : MethodName := ⟨RX28, "canStep", "()Z"⟩
def YX28_canStep : eY := (yX28_canStep, cX28_canStep, 1, (Option.some FieldType.boolean), [])
theorem mX28_canStep : e_mv YX28_canStep RX28 0 := ⟨q3218, q3219, q3220, by decide, by decide +kernel, (e_sig (by decide +kernel))⟩
theorem dX28_canStep_0 : decode cX28_canStep 0 = .ok (.aload_n 0, 1) := dc_42 (by decide +kernel)
theorem dX28_canStep_1 : decode cX28_canStep 1 = .ok (.getfield 102, 3) := dc_180 (a := 0) (b := 102) (n := 102) (by decide +kernel)
theorem dX28_canStep_4 : decode cX28_canStep 4 = .ok (.aload_n 0, 1) := dc_42 (by decide +kernel)
theorem dX28_canStep_5 : decode cX28_canStep 5 = .ok (.getfield 31, 3) := dc_180 (a := 0) (b := 31) (n := 31) (by decide +kernel)
theorem dX28_canStep_8 : decode cX28_canStep 8 = .ok (.getfield 123, 3) := dc_180 (a := 0) (b := 123) (n := 123) (by decide +kernel)
theorem dX28_canStep_11 : decode cX28_canStep 11 = .ok (.if_icmp .ge 49, 3) := dc_162 (a := 0) (b := 49) (v := 49) (by decide +kernel)
theorem dX28_canStep_14 : decode cX28_canStep 14 = .ok (.aload_n 0, 1) := dc_42 (by decide +kernel)
theorem dX28_canStep_15 : decode cX28_canStep 15 = .ok (.getfield 31, 3) := dc_180 (a := 0) (b := 31) (n := 31) (by decide +kernel)
theorem dX28_canStep_18 : decode cX28_canStep 18 = .ok (.aload_n 0, 1) := dc_42 (by decide +kernel)
theorem dX28_canStep_19 : decode cX28_canStep 19 = .ok (.getfield 102, 3) := dc_180 (a := 0) (b := 102) (n := 102) (by decide +kernel)
theorem dX28_canStep_22 : decode cX28_canStep 22 = .ok (.invokevirtual 81, 3) := dc_182 (a := 0) (b := 81) (n := 81) (by decide +kernel)
theorem dX28_canStep_25 : decode cX28_canStep 25 = .ok (.iconst 2, 1) := dc_5 (by decide +kernel)
theorem dX28_canStep_26 : decode cX28_canStep 26 = .ok (.if_icmp .ne 30, 3) := dc_160 (a := 0) (b := 30) (v := 30) (by decide +kernel)
theorem dX28_canStep_29 : decode cX28_canStep 29 = .ok (.aload_n 0, 1) := dc_42 (by decide +kernel)
theorem dX28_canStep_30 : decode cX28_canStep 30 = .ok (.getfield 102, 3) := dc_180 (a := 0) (b := 102) (n := 102) (by decide +kernel)
theorem dX28_canStep_33 : decode cX28_canStep 33 = .ok (.iconst 1, 1) := dc_4 (by decide +kernel)
theorem dX28_canStep_34 : decode cX28_canStep 34 = .ok (.iadd, 1) := dc_96 (by decide +kernel)
theorem dX28_canStep_35 : decode cX28_canStep 35 = .ok (.aload_n 0, 1) := dc_42 (by decide +kernel)
theorem dX28_canStep_36 : decode cX28_canStep 36 = .ok (.getfield 31, 3) := dc_180 (a := 0) (b := 31) (n := 31) (by decide +kernel)
theorem dX28_canStep_39 : decode cX28_canStep 39 = .ok (.getfield 123, 3) := dc_180 (a := 0) (b := 123) (n := 123) (by decide +kernel)
theorem dX28_canStep_42 : decode cX28_canStep 42 = .ok (.if_icmp .lt 14, 3) := dc_161 (a := 0) (b := 14) (v := 14) (by decide +kernel)
theorem dX28_canStep_45 : decode cX28_canStep 45 = .ok (.aload_n 0, 1) := dc_42 (by decide +kernel)
theorem dX28_canStep_46 : decode cX28_canStep 46 = .ok (.getfield 24, 3) := dc_180 (a := 0) (b := 24) (n := 24) (by decide +kernel)
theorem dX28_canStep_49 : decode cX28_canStep 49 = .ok (.getfield 38, 3) := dc_180 (a := 0) (b := 38) (n := 38) (by decide +kernel)
theorem dX28_canStep_52 : decode cX28_canStep 52 = .ok (.iconst (-1), 1) := dc_2 (by decide +kernel)
theorem dX28_canStep_53 : decode cX28_canStep 53 = .ok (.if_icmp .ne 7, 3) := dc_160 (a := 0) (b := 7) (v := 7) (by decide +kernel)
theorem dX28_canStep_56 : decode cX28_canStep 56 = .ok (.iconst 1, 1) := dc_4 (by decide +kernel)
theorem dX28_canStep_57 : decode cX28_canStep 57 = .ok (.goto 4, 3) := dc_167 (a := 0) (b := 4) (v := 4) (by decide +kernel)
theorem dX28_canStep_60 : decode cX28_canStep 60 = .ok (.iconst 0, 1) := dc_3 (by decide +kernel)
theorem dX28_canStep_61 : decode cX28_canStep 61 = .ok (.ireturn, 1) := dc_172 (by decide +kernel)
theorem GX28_102 {w : eW} {d : Nat} {Y : eY} {pc : Nat} {ls : eL} {st : List Value} {h : eH} {Q : eO → eH → Prop} {a : Nat} {x : Int32} (hf : g_I 27 h a 10 = some x) (hd : decode Y.2.1 pc = .ok (.getfield 102, 3)) (hY : Y.1.cls = RX28) (kk : wp w d Y (pc + 3) ls (.int x :: st) h Q) : wp w d Y pc ls (.ref a :: st) h Q := x_gI (ci := 27) (k := 10) hf hd rfl (by decide) (by rw [hY]; exact q1632) kk
theorem GX28_123 {w : eW} {d : Nat} {Y : eY} {pc : Nat} {ls : eL} {st : List Value} {h : eH} {Q : eO → eH → Prop} {a : Nat} {x : Int32} (hf : g_I 26 h a 6 = some x) (hd : decode Y.2.1 pc = .ok (.getfield 123, 3)) (hY : Y.1.cls = RX28) (kk : wp w d Y (pc + 3) ls (.int x :: st) h Q) : wp w d Y pc ls (.ref a :: st) h Q := x_gIN (ci := 26) (k := 6) hf hd rfl (by decide) (by rw [hY]; exact q1511) kk
theorem GX28_31 {w : eW} {d : Nat} {Y : eY} {pc : Nat} {ls : eL} {st : List Value} {h : eH} {Q : eO → eH → Prop} {a : Nat} {x : Nat} (hf : g_A 27 h a 0 = some x) (hd : decode Y.2.1 pc = .ok (.getfield 31, 3)) (hY : Y.1.cls = RX28) (kk : wp w d Y (pc + 3) ls (.ref x :: st) h Q) : wp w d Y pc ls (.ref a :: st) h Q := x_gA (ci := 27) (k := 0) hf hd rfl (by decide) (by rw [hY]; exact q1618) kk
theorem GX28_38 {w : eW} {d : Nat} {Y : eY} {pc : Nat} {ls : eL} {st : List Value} {h : eH} {Q : eO → eH → Prop} {a : Nat} {x : Int32} (hf : g_I 29 h a 4 = some x) (hd : decode Y.2.1 pc = .ok (.getfield 38, 3)) (hY : Y.1.cls = RX28) (kk : wp w d Y (pc + 3) ls (.int x :: st) h Q) : wp w d Y pc ls (.ref a :: st) h Q := x_gIN (ci := 29) (k := 4) hf hd rfl (by decide) (by rw [hY]; exact q1573) kk
def fX28_canStep_b61 (s0 : Int32) (h : eH) : Option (Int32 × eH) :=
  z_r s0 (s0, h)
theorem pX28_canStep_b61 {w : eW} {d : Nat} (hd : 1 ≤ d + 1) {s0 : Int32} {h : eH} {q} (hf : fX28_canStep_b61 s0 h = some q) : wp w (d + 1) YX28_canStep 61 [none] [.int s0] h (e_is (e_rn c_I q)) := by
  unfold fX28_canStep_b61 at hf
  obtain ⟨b1, rfl⟩ := z_r_some hf
  exact w_iret dX28_canStep_61 rfl b1 rfl
def fX28_canStep_b56  (h : eH) : Option (Int32 × eH) :=
  fX28_canStep_b61 (1 : Int32) h
theorem pX28_canStep_b56 {w : eW} {d : Nat} (hd : 1 ≤ d + 1)  {h : eH} {q} (hf : fX28_canStep_b56  h = some q) : wp w (d + 1) YX28_canStep 56 [none] [] h (e_is (e_rn c_I q)) := by
  unfold fX28_canStep_b56 at hf
  refine w_iconst dX28_canStep_56 (v := 1) (by decide) ?_
  refine w_goto 61 dX28_canStep_57 (by decide) ?_
  exact (pX28_canStep_b61 hd hf).to trivial
def fX28_canStep_b60  (h : eH) : Option (Int32 × eH) :=
  fX28_canStep_b61 (0 : Int32) h
theorem pX28_canStep_b60 {w : eW} {d : Nat} (hd : 1 ≤ d + 1)  {h : eH} {q} (hf : fX28_canStep_b60  h = some q) : wp w (d + 1) YX28_canStep 60 [none] [] h (e_is (e_rn c_I q)) := by
  unfold fX28_canStep_b60 at hf
  refine w_iconst dX28_canStep_60 (v := 0) (by decide) ?_
  exact (pX28_canStep_b61 hd hf).to trivial
def fX28_canStep (this : Nat) (h : eH) : Option (Int32 × eH) :=
  (g_I 27 h this 10).bind fun x1 =>
  (g_A 27 h this 0).bind fun a3 =>
  (g_I 26 h a3 6).bind fun x5 =>
  if x5 ≤ x1 then
    fX28_canStep_b60 h
  else
    (g_A 27 h this 0).bind fun a8 =>
    (g_I 27 h this 10).bind fun x10 =>
    (k_ok 26 h a8).bind fun _ =>
    (fX27_kind a8 x10 h).bind fun q13 =>
    if ¬ q13.1 = (2 : Int32) then
      fX28_canStep_b56 q13.2
    else
      (g_I 27 q13.2 this 10).bind fun x15 =>
      (g_A 27 q13.2 this 0).bind fun a17 =>
      (g_I 26 q13.2 a17 6).bind fun x19 =>
      if (x15 + (1 : Int32)) < x19 then
        fX28_canStep_b56 q13.2
      else
        (g_A 27 q13.2 this 6).bind fun a22 =>
        (g_I 29 q13.2 a22 4).bind fun x24 =>
        if ¬ x24 = (-1 : Int32) then
          fX28_canStep_b60 q13.2
        else
          fX28_canStep_b56 q13.2
theorem pX28_canStep {w : eW} {d : Nat} (hd : 1 ≤ d) {this : Nat} {h : eH} {q} (hf : fX28_canStep this h = some q) : wm w d YX28_canStep [.ref this] h (e_is (e_rn c_I q)) := by
  obtain ⟨d, rfl⟩ : ∃ e, d = e + 1 := ⟨d - 1, by omega⟩
  show wp w (d + 1) YX28_canStep 0 [some (.ref this)] [] h _
  unfold fX28_canStep at hf
  refine w_aload_n dX28_canStep_0 rfl rfl ?_
  obtain ⟨x1, b2, hf⟩ := Option.bind_eq_some_iff.mp hf
  refine GX28_102 b2 dX28_canStep_1 rfl ?_
  refine w_aload_n dX28_canStep_4 rfl rfl ?_
  obtain ⟨a3, b4, hf⟩ := Option.bind_eq_some_iff.mp hf
  refine GX28_31 b4 dX28_canStep_5 rfl ?_
  obtain ⟨x5, b6, hf⟩ := Option.bind_eq_some_iff.mp hf
  refine GX28_123 b6 dX28_canStep_8 rfl ?_
  refine w_icmp_ge 60 dX28_canStep_11 (by decide) (fun c7 => ?_) (fun c7 => ?_)
  · replace hf := (if_pos (show x5 ≤ x1 from c7)).symm.trans hf
    exact (pX28_canStep_b60 hd hf).to trivial
  · replace hf := (if_neg (show ¬ (x5 ≤ x1) from c7)).symm.trans hf
    refine w_aload_n dX28_canStep_14 rfl rfl ?_
    obtain ⟨a8, b9, hf⟩ := Option.bind_eq_some_iff.mp hf
    refine GX28_31 b9 dX28_canStep_15 rfl ?_
    refine w_aload_n dX28_canStep_18 rfl rfl ?_
    obtain ⟨x10, b11, hf⟩ := Option.bind_eq_some_iff.mp hf
    refine GX28_102 b11 dX28_canStep_19 rfl ?_
    obtain ⟨_, b12, hf⟩ := Option.bind_eq_some_iff.mp hf
    refine x_cnI hf (e_stV (Yc := YX27_kind) (ci := 26) (av := [.int x10]) (st := []) dX28_canStep_22 q3221 mX27_kind rfl (k_ok_some b12).1 (k_ok_some b12).2) mX27_kind.2.2.1 mX27_kind.2.2.2.2.1 (Nat.le_of_ble_eq_true rfl) (Nat.le_of_ble_eq_true rfl) (fun q hq => pX27_kind (by omega) hq) (fun q13 hf => ?_)
    refine w_iconst dX28_canStep_25 (v := 2) (by decide) ?_
    refine w_icmp_ne 56 dX28_canStep_26 (by decide) (fun c14 => ?_) (fun c14 => ?_)
    · replace hf := (if_pos (show ¬ q13.1 = (2 : Int32) from c14)).symm.trans hf
      exact (pX28_canStep_b56 hd hf).to trivial
    · replace hf := (if_neg (show ¬ (¬ q13.1 = (2 : Int32)) from (fun z => z c14))).symm.trans hf
      refine w_aload_n dX28_canStep_29 rfl rfl ?_
      obtain ⟨x15, b16, hf⟩ := Option.bind_eq_some_iff.mp hf
      refine GX28_102 b16 dX28_canStep_30 rfl ?_
      refine w_iconst dX28_canStep_33 (v := 1) (by decide) ?_
      refine w_iadd dX28_canStep_34 ?_
      refine w_aload_n dX28_canStep_35 rfl rfl ?_
      obtain ⟨a17, b18, hf⟩ := Option.bind_eq_some_iff.mp hf
      refine GX28_31 b18 dX28_canStep_36 rfl ?_
      obtain ⟨x19, b20, hf⟩ := Option.bind_eq_some_iff.mp hf
      refine GX28_123 b20 dX28_canStep_39 rfl ?_
      refine w_icmp_lt 56 dX28_canStep_42 (by decide) (fun c21 => ?_) (fun c21 => ?_)
      · replace hf := (if_pos (show (x15 + (1 : Int32)) < x19 from c21)).symm.trans hf
        exact (pX28_canStep_b56 hd hf).to trivial
      · replace hf := (if_neg (show ¬ ((x15 + (1 : Int32)) < x19) from c21)).symm.trans hf
        refine w_aload_n dX28_canStep_45 rfl rfl ?_
        obtain ⟨a22, b23, hf⟩ := Option.bind_eq_some_iff.mp hf
        refine GX28_24 b23 dX28_canStep_46 rfl ?_
        obtain ⟨x24, b25, hf⟩ := Option.bind_eq_some_iff.mp hf
        refine GX28_38 b25 dX28_canStep_49 rfl ?_
        refine w_iconst dX28_canStep_52 (v := -1) (by decide) ?_
        refine w_icmp_ne 60 dX28_canStep_53 (by decide) (fun c26 => ?_) (fun c26 => ?_)
        · replace hf := (if_pos (show ¬ x24 = (-1 : Int32) from c26)).symm.trans hf
          exact (pX28_canStep_b60 hd hf).to trivial
        · replace hf := (if_neg (show ¬ (¬ x24 = (-1 : Int32)) from (fun z => z c26))).symm.trans hf
          exact (pX28_canStep_b56 hd hf).to trivial
abbrev cX30_crown : ByteArray := prog_20_method_6_code
def yX30_crown : MethodName := ⟨RX30, "crown", "(LTypeHouse$PageItems;LTypeHouse$Sums;)V"⟩
def YX30_crown : eY := (yX30_crown, cX30_crown, 3, none, [])
theorem mX30_crown : e_mv YX30_crown RX30 2 := ⟨q3234, q3235, q3236, by decide, by decide +kernel, (e_sig (by decide +kernel))⟩
theorem dX30_crown_0 : decode cX30_crown 0 = .ok (.aload_n 2, 1) := dc_44 (by decide +kernel)
theorem dX30_crown_1 : decode cX30_crown 1 = .ok (.invokevirtual 73, 3) := dc_182 (a := 0) (b := 73) (n := 73) (by decide +kernel)
theorem dX30_crown_4 : decode cX30_crown 4 = .ok (.aload_n 2, 1) := dc_44 (by decide +kernel)
theorem dX30_crown_5 : decode cX30_crown 5 = .ok (.lconst 0, 1) := dc_9 (by decide +kernel)
theorem dX30_crown_6 : decode cX30_crown 6 = .ok (.aload_n 0, 1) := dc_42 (by decide +kernel)
theorem dX30_crown_7 : decode cX30_crown 7 = .ok (.getfield 76, 3) := dc_180 (a := 0) (b := 76) (n := 76) (by decide +kernel)
theorem dX30_crown_10 : decode cX30_crown 10 = .ok (.i2l, 1) := dc_133 (by decide +kernel)
theorem dX30_crown_11 : decode cX30_crown 11 = .ok (.aload_n 1, 1) := dc_43 (by decide +kernel)
theorem dX30_crown_12 : decode cX30_crown 12 = .ok (.getfield 79, 3) := dc_180 (a := 0) (b := 79) (n := 79) (by decide +kernel)
theorem dX30_crown_15 : decode cX30_crown 15 = .ok (.aload_n 0, 1) := dc_42 (by decide +kernel)
theorem dX30_crown_16 : decode cX30_crown 16 = .ok (.getfield 49, 3) := dc_180 (a := 0) (b := 49) (n := 49) (by decide +kernel)
theorem dX30_crown_19 : decode cX30_crown 19 = .ok (.iaload, 1) := dc_46 (by decide +kernel)
theorem dX30_crown_20 : decode cX30_crown 20 = .ok (.i2l, 1) := dc_133 (by decide +kernel)
theorem dX30_crown_21 : decode cX30_crown 21 = .ok (.lsub, 1) := dc_101 (by decide +kernel)
theorem dX30_crown_22 : decode cX30_crown 22 = .ok (.invokestatic 85, 3) := dc_184 (a := 0) (b := 85) (n := 85) (by decide +kernel)
theorem dX30_crown_25 : decode cX30_crown 25 = .ok (.putfield 20, 3) := dc_181 (a := 0) (b := 20) (n := 20) (by decide +kernel)
theorem dX30_crown_28 : decode cX30_crown 28 = .ok (.return_, 1) := dc_177 (by decide +kernel)
theorem GX30_49 {w : eW} {d : Nat} {Y : eY} {pc : Nat} {ls : eL} {st : List Value} {h : eH} {Q : eO → eH → Prop} {a : Nat} {x : Int32} (hf : g_I 29 h a 4 = some x) (hd : decode Y.2.1 pc = .ok (.getfield 49, 3)) (hY : Y.1.cls = RX30) (kk : wp w d Y (pc + 3) ls (.int x :: st) h Q) : wp w d Y pc ls (.ref a :: st) h Q := x_gI (ci := 29) (k := 4) hf hd rfl (by decide) (by rw [hY]; exact q1574) kk
theorem GX30_76 {w : eW} {d : Nat} {Y : eY} {pc : Nat} {ls : eL} {st : List Value} {h : eH} {Q : eO → eH → Prop} {a : Nat} {x : Int32} (hf : g_I 29 h a 2 = some x) (hd : decode Y.2.1 pc = .ok (.getfield 76, 3)) (hY : Y.1.cls = RX30) (kk : wp w d Y (pc + 3) ls (.int x :: st) h Q) : wp w d Y pc ls (.ref a :: st) h Q := x_gI (ci := 29) (k := 2) hf hd rfl (by decide) (by rw [hY]; exact q1570) kk
theorem GX30_79 {w : eW} {d : Nat} {Y : eY} {pc : Nat} {ls : eL} {st : List Value} {h : eH} {Q : eO → eH → Prop} {a : Nat} {x : Nat} (hf : g_A 26 h a 2 = some x) (hd : decode Y.2.1 pc = .ok (.getfield 79, 3)) (hY : Y.1.cls = RX30) (kk : wp w d Y (pc + 3) ls (.ref x :: st) h Q) : wp w d Y pc ls (.ref a :: st) h Q := x_gAN (ci := 26) (k := 2) hf hd rfl (by decide) (by rw [hY]; exact q1500) kk
theorem SX30_20 {w : eW} {d : Nat} {Y : eY} {pc : Nat} {ls : eL} {st : List Value} {h : eH} {Q : eO → eH → Prop} {a : Nat} {h' : eH} {x : Int64} (hf : p_V 28 h a 2 (.long x) = some h') (hd : decode Y.2.1 pc = .ok (.putfield 20, 3)) (hY : Y.1.cls = RX30) (kk : wp w d Y (pc + 3) ls st h' Q) : wp w d Y pc ls (.long x :: .ref a :: st) h Q := x_pJN (ci := 28) (k := 2) hf hd rfl (by decide) (by rw [hY]; exact q1543) rfl rfl kk
def fX30_crown (N : Nat) (this : Nat) (p0 : Nat) (p1 : Nat) (h : eH) : Option (Unit × eH) :=
  (k_ok 28 h p1).bind fun _ =>
  (fX29_clear N p1 h).bind fun q2 =>
  (g_I 29 q2.2 this 2).bind fun x3 =>
  (g_A 26 q2.2 p0 2).bind fun a5 =>
  (g_I 29 q2.2 this 4).bind fun x7 =>
  (r_I 100 q2.2 a5 x7).bind fun x9 =>
  (p_V 28 q2.2 p1 2 (.long (m_maxJ (0 : Int64) ((x3).toInt64 - (x9).toInt64)))).bind fun h11 =>
  some ((), h11)
theorem pX30_crown {w : eW} {d : Nat} (hd : 1 ≤ d) {N : Nat} {this : Nat} {p0 : Nat} {p1 : Nat} {h : eH} {q} (hf : fX30_crown N this p0 p1 h = some q) : wm w d YX30_crown [.ref this, .ref p0, .ref p1] h (e_is (e_rn c_V q)) := by
  obtain ⟨d, rfl⟩ : ∃ e, d = e + 1 := ⟨d - 1, by omega⟩
  show wp w (d + 1) YX30_crown 0 [some (.ref this), some (.ref p0), some (.ref p1)] [] h _
  unfold fX30_crown at hf
  refine w_aload_n dX30_crown_0 rfl rfl ?_
  obtain ⟨_, b1, hf⟩ := Option.bind_eq_some_iff.mp hf
  refine x_cnV hf (e_stV (Yc := YX29_clear) (ci := 28) (av := []) (st := []) dX30_crown_1 q3237 mX29_clear rfl (k_ok_some b1).1 (k_ok_some b1).2) mX29_clear.2.2.1 mX29_clear.2.2.2.2.1 (Nat.le_of_ble_eq_true rfl) (Nat.le_of_ble_eq_true rfl) (fun q hq => pX29_clear (by omega) hq) (fun q2 hf => ?_)
  refine w_aload_n dX30_crown_4 rfl rfl ?_
  refine w_lconst dX30_crown_5 (v := 0) (by decide) ?_
  refine w_aload_n dX30_crown_6 rfl rfl ?_
  obtain ⟨x3, b4, hf⟩ := Option.bind_eq_some_iff.mp hf
  refine GX30_76 b4 dX30_crown_7 rfl ?_
  refine w_i2l dX30_crown_10 ?_
  refine w_aload_n dX30_crown_11 rfl rfl ?_
  obtain ⟨a5, b6, hf⟩ := Option.bind_eq_some_iff.mp hf
  refine GX30_79 b6 dX30_crown_12 rfl ?_
  refine w_aload_n dX30_crown_15 rfl rfl ?_
  obtain ⟨x7, b8, hf⟩ := Option.bind_eq_some_iff.mp hf
  refine GX30_49 b8 dX30_crown_16 rfl ?_
  obtain ⟨x9, b10, hf⟩ := Option.bind_eq_some_iff.mp hf
  refine x_rI b10 dX30_crown_19 ?_
  refine w_i2l dX30_crown_20 ?_
  refine w_lsub dX30_crown_21 ?_
  refine x_maxJ dX30_crown_22 q3238 q3239 q478 q3240 (Nat.le_of_ble_eq_true rfl) ?_
  obtain ⟨h11, b12, hf⟩ := Option.bind_eq_some_iff.mp hf
  refine SX30_20 b12 dX30_crown_25 rfl ?_
  cases hf
  exact w_vret dX30_crown_28 rfl rfl
abbrev cX28_open : ByteArray := prog_21_method_3_code
def yX28_open : MethodName := ⟨RX28, "open", "(I)V"⟩
def YX28_open : eY := (yX28_open, cX28_open, 2, none, [])
theorem mX28_open : e_mv YX28_open RX28 1 := ⟨q3231, qs120, q3232, by decide, by decide +kernel, (e_sig (by decide +kernel))⟩
theorem dX28_open_0 : decode cX28_open 0 = .ok (.aload_n 0, 1) := dc_42 (by decide +kernel)
theorem dX28_open_1 : decode cX28_open 1 = .ok (.getfield 24, 3) := dc_180 (a := 0) (b := 24) (n := 24) (by decide +kernel)
theorem dX28_open_4 : decode cX28_open 4 = .ok (.iload_n 1, 1) := dc_27 (by decide +kernel)
theorem dX28_open_5 : decode cX28_open 5 = .ok (.putfield 38, 3) := dc_181 (a := 0) (b := 38) (n := 38) (by decide +kernel)
theorem dX28_open_8 : decode cX28_open 8 = .ok (.aload_n 0, 1) := dc_42 (by decide +kernel)
theorem dX28_open_9 : decode cX28_open 9 = .ok (.getfield 24, 3) := dc_180 (a := 0) (b := 24) (n := 24) (by decide +kernel)
theorem dX28_open_12 : decode cX28_open 12 = .ok (.aload_n 0, 1) := dc_42 (by decide +kernel)
theorem dX28_open_13 : decode cX28_open 13 = .ok (.getfield 52, 3) := dc_180 (a := 0) (b := 52) (n := 52) (by decide +kernel)
theorem dX28_open_16 : decode cX28_open 16 = .ok (.putfield 55, 3) := dc_181 (a := 0) (b := 55) (n := 55) (by decide +kernel)
theorem dX28_open_19 : decode cX28_open 19 = .ok (.aload_n 0, 1) := dc_42 (by decide +kernel)
theorem dX28_open_20 : decode cX28_open 20 = .ok (.getfield 24, 3) := dc_180 (a := 0) (b := 24) (n := 24) (by decide +kernel)
theorem dX28_open_23 : decode cX28_open 23 = .ok (.aload_n 0, 1) := dc_42 (by decide +kernel)
theorem dX28_open_24 : decode cX28_open 24 = .ok (.getfield 56, 3) := dc_180 (a := 0) (b := 56) (n := 56) (by decide +kernel)
theorem dX28_open_27 : decode cX28_open 27 = .ok (.putfield 59, 3) := dc_181 (a := 0) (b := 59) (n := 59) (by decide +kernel)
theorem dX28_open_30 : decode cX28_open 30 = .ok (.aload_n 0, 1) := dc_42 (by decide +kernel)
theorem dX28_open_31 : decode cX28_open 31 = .ok (.getfield 24, 3) := dc_180 (a := 0) (b := 24) (n := 24) (by decide +kernel)
theorem dX28_open_34 : decode cX28_open 34 = .ok (.aload_n 0, 1) := dc_42 (by decide +kernel)
theorem dX28_open_35 : decode cX28_open 35 = .ok (.getfield 60, 3) := dc_180 (a := 0) (b := 60) (n := 60) (by decide +kernel)
theorem dX28_open_38 : decode cX28_open 38 = .ok (.putfield 63, 3) := dc_181 (a := 0) (b := 63) (n := 63) (by decide +kernel)
theorem dX28_open_41 : decode cX28_open 41 = .ok (.aload_n 0, 1) := dc_42 (by decide +kernel)
theorem dX28_open_42 : decode cX28_open 42 = .ok (.getfield 24, 3) := dc_180 (a := 0) (b := 24) (n := 24) (by decide +kernel)
theorem dX28_open_45 : decode cX28_open 45 = .ok (.aload_n 0, 1) := dc_42 (by decide +kernel)
theorem dX28_open_46 : decode cX28_open 46 = .ok (.getfield 31, 3) := dc_180 (a := 0) (b := 31) (n := 31) (by decide +kernel)
theorem dX28_open_49 : decode cX28_open 49 = .ok (.aload_n 0, 1) := dc_42 (by decide +kernel)
theorem dX28_open_50 : decode cX28_open 50 = .ok (.getfield 12, 3) := dc_180 (a := 0) (b := 12) (n := 12) (by decide +kernel)
theorem dX28_open_53 : decode cX28_open 53 = .ok (.invokevirtual 64, 3) := dc_182 (a := 0) (b := 64) (n := 64) (by decide +kernel)
theorem dX28_open_56 : decode cX28_open 56 = .ok (.return_, 1) := dc_177 (by decide +kernel)
theorem GX28_52 {w : eW} {d : Nat} {Y : eY} {pc : Nat} {ls : eL} {st : List Value} {h : eH} {Q : eO → eH → Prop} {a : Nat} {x : Int32} (hf : g_I 27 h a 3 = some x) (hd : decode Y.2.1 pc = .ok (.getfield 52, 3)) (hY : Y.1.cls = RX28) (kk : wp w d Y (pc + 3) ls (.int x :: st) h Q) : wp w d Y pc ls (.ref a :: st) h Q := x_gI (ci := 27) (k := 3) hf hd rfl (by decide) (by rw [hY]; exact q1621) kk
theorem GX28_56 {w : eW} {d : Nat} {Y : eY} {pc : Nat} {ls : eL} {st : List Value} {h : eH} {Q : eO → eH → Prop} {a : Nat} {x : Int32} (hf : g_I 27 h a 4 = some x) (hd : decode Y.2.1 pc = .ok (.getfield 56, 3)) (hY : Y.1.cls = RX28) (kk : wp w d Y (pc + 3) ls (.int x :: st) h Q) : wp w d Y pc ls (.ref a :: st) h Q := x_gI (ci := 27) (k := 4) hf hd rfl (by decide) (by rw [hY]; exact q1623) kk
theorem GX28_60 {w : eW} {d : Nat} {Y : eY} {pc : Nat} {ls : eL} {st : List Value} {h : eH} {Q : eO → eH → Prop} {a : Nat} {x : Int32} (hf : g_I 27 h a 5 = some x) (hd : decode Y.2.1 pc = .ok (.getfield 60, 3)) (hY : Y.1.cls = RX28) (kk : wp w d Y (pc + 3) ls (.int x :: st) h Q) : wp w d Y pc ls (.ref a :: st) h Q := x_gI (ci := 27) (k := 5) hf hd rfl (by decide) (by rw [hY]; exact q1625) kk
theorem SX28_55 {w : eW} {d : Nat} {Y : eY} {pc : Nat} {ls : eL} {st : List Value} {h : eH} {Q : eO → eH → Prop} {a : Nat} {h' : eH} {x : Int32} (hf : p_V 29 h a 1 (.int x) = some h') (hd : decode Y.2.1 pc = .ok (.putfield 55, 3)) (hY : Y.1.cls = RX28) (kk : wp w d Y (pc + 3) ls st h' Q) : wp w d Y pc ls (.int x :: .ref a :: st) h Q := x_pIN (ci := 29) (k := 1) hf hd rfl (by decide) (by rw [hY]; exact q1568) rfl rfl kk
theorem SX28_59 {w : eW} {d : Nat} {Y : eY} {pc : Nat} {ls : eL} {st : List Value} {h : eH} {Q : eO → eH → Prop} {a : Nat} {h' : eH} {x : Int32} (hf : p_V 29 h a 2 (.int x) = some h') (hd : decode Y.2.1 pc = .ok (.putfield 59, 3)) (hY : Y.1.cls = RX28) (kk : wp w d Y (pc + 3) ls st h' Q) : wp w d Y pc ls (.int x :: .ref a :: st) h Q := x_pIN (ci := 29) (k := 2) hf hd rfl (by decide) (by rw [hY]; exact q1569) rfl rfl kk
theorem SX28_63 {w : eW} {d : Nat} {Y : eY} {pc : Nat} {ls : eL} {st : List Value} {h : eH} {Q : eO → eH → Prop} {a : Nat} {h' : eH} {x : Int32} (hf : p_V 29 h a 3 (.int x) = some h') (hd : decode Y.2.1 pc = .ok (.putfield 63, 3)) (hY : Y.1.cls = RX28) (kk : wp w d Y (pc + 3) ls st h' Q) : wp w d Y pc ls (.int x :: .ref a :: st) h Q := x_pIN (ci := 29) (k := 3) hf hd rfl (by decide) (by rw [hY]; exact q1571) rfl rfl kk
def fX28_open (N : Nat) (this : Nat) (p0 : Int32) (h : eH) : Option (Unit × eH) :=
  (g_A 27 h this 6).bind fun a1 =>
  (p_V 29 h a1 4 (.int p0)).bind fun h3 =>
  (g_A 27 h3 this 6).bind fun a5 =>
  (g_I 27 h3 this 3).bind fun x7 =>
  (p_V 29 h3 a5 1 (.int x7)).bind fun h9 =>
  (g_A 27 h9 this 6).bind fun a11 =>
  (g_I 27 h9 this 4).bind fun x13 =>
  (p_V 29 h9 a11 2 (.int x13)).bind fun h15 =>
  (g_A 27 h15 this 6).bind fun a17 =>
  (g_I 27 h15 this 5).bind fun x19 =>
  (p_V 29 h15 a17 3 (.int x19)).bind fun h21 =>
  (g_A 27 h21 this 6).bind fun a23 =>
  (g_A 27 h21 this 0).bind fun a25 =>
  (g_A 27 h21 this 1).bind fun a27 =>
  (k_ok 29 h21 a23).bind fun _ =>
  (fX30_crown N a23 a25 a27 h21).bind fun q30 =>
  some ((), q30.2)
theorem pX28_open {w : eW} {d : Nat} (hd : 2 ≤ d) {N : Nat} {this : Nat} {p0 : Int32} {h : eH} {q} (hf : fX28_open N this p0 h = some q) : wm w d YX28_open [.ref this, .int p0] h (e_is (e_rn c_V q)) := by
  obtain ⟨d, rfl⟩ : ∃ e, d = e + 1 := ⟨d - 1, by omega⟩
  show wp w (d + 1) YX28_open 0 [some (.ref this), some (.int p0)] [] h _
  unfold fX28_open at hf
  refine w_aload_n dX28_open_0 rfl rfl ?_
  obtain ⟨a1, b2, hf⟩ := Option.bind_eq_some_iff.mp hf
  refine GX28_24 b2 dX28_open_1 rfl ?_
  refine w_iload_n dX28_open_4 rfl rfl ?_
  obtain ⟨h3, b4, hf⟩ := Option.bind_eq_some_iff.mp hf
  refine SX28_38 b4 dX28_open_5 rfl ?_
  refine w_aload_n dX28_open_8 rfl rfl ?_
  obtain ⟨a5, b6, hf⟩ := Option.bind_eq_some_iff.mp hf
  refine GX28_24 b6 dX28_open_9 rfl ?_
  refine w_aload_n dX28_open_12 rfl rfl ?_
  obtain ⟨x7, b8, hf⟩ := Option.bind_eq_some_iff.mp hf
  refine GX28_52 b8 dX28_open_13 rfl ?_
  obtain ⟨h9, b10, hf⟩ := Option.bind_eq_some_iff.mp hf
  refine SX28_55 b10 dX28_open_16 rfl ?_
  refine w_aload_n dX28_open_19 rfl rfl ?_
  obtain ⟨a11, b12, hf⟩ := Option.bind_eq_some_iff.mp hf
  refine GX28_24 b12 dX28_open_20 rfl ?_
  refine w_aload_n dX28_open_23 rfl rfl ?_
  obtain ⟨x13, b14, hf⟩ := Option.bind_eq_some_iff.mp hf
  refine GX28_56 b14 dX28_open_24 rfl ?_
  obtain ⟨h15, b16, hf⟩ := Option.bind_eq_some_iff.mp hf
  refine SX28_59 b16 dX28_open_27 rfl ?_
  refine w_aload_n dX28_open_30 rfl rfl ?_
  obtain ⟨a17, b18, hf⟩ := Option.bind_eq_some_iff.mp hf
  refine GX28_24 b18 dX28_open_31 rfl ?_
  refine w_aload_n dX28_open_34 rfl rfl ?_
  obtain ⟨x19, b20, hf⟩ := Option.bind_eq_some_iff.mp hf
  refine GX28_60 b20 dX28_open_35 rfl ?_
  obtain ⟨h21, b22, hf⟩ := Option.bind_eq_some_iff.mp hf
  refine SX28_63 b22 dX28_open_38 rfl ?_
  refine w_aload_n dX28_open_41 rfl rfl ?_
  obtain ⟨a23, b24, hf⟩ := Option.bind_eq_some_iff.mp hf
  refine GX28_24 b24 dX28_open_42 rfl ?_
  refine w_aload_n dX28_open_45 rfl rfl ?_
  obtain ⟨a25, b26, hf⟩ := Option.bind_eq_some_iff.mp hf
  refine GX28_31 b26 dX28_open_46 rfl ?_
  refine w_aload_n dX28_open_49 rfl rfl ?_
  obtain ⟨a27, b28, hf⟩ := Option.bind_eq_some_iff.mp hf
  refine GX28_12 b28 dX28_open_50 rfl ?_
  obtain ⟨_, b29, hf⟩ := Option.bind_eq_some_iff.mp hf
  refine x_cnV hf (e_stV (Yc := YX30_crown) (ci := 29) (av := [.ref a25, .ref a27]) (st := []) dX28_open_53 q3233 mX30_crown rfl (k_ok_some b29).1 (k_ok_some b29).2) mX30_crown.2.2.1 mX30_crown.2.2.2.2.1 (Nat.le_of_ble_eq_true rfl) (Nat.le_of_ble_eq_true rfl) (fun q hq => pX30_crown (by omega) hq) (fun q30 hf => ?_)
  cases hf
  exact w_vret dX28_open_56 rfl rfl
abbrev cX29_space : ByteArray := prog_30_method_5_code
def yX29_space : MethodName := ⟨RX29, "space", "(J)V"⟩
def YX29_space : eY := (yX29_space, cX29_space, 3, none, [])
theorem mX29_space : e_mv YX29_space RX29 1 := ⟨q3247, qs121, q3248, by decide, by decide +kernel, (e_sig (by decide +kernel))⟩
theorem dX29_space_0 : decode cX29_space 0 = .ok (.aload_n 0, 1) := dc_42 (by decide +kernel)
theorem dX29_space_1 : decode cX29_space 1 = .ok (.dup, 1) := dc_89 (by decide +kernel)
theorem dX29_space_2 : decode cX29_space 2 = .ok (.getfield 19, 3) := dc_180 (a := 0) (b := 19) (n := 19) (by decide +kernel)
theorem dX29_space_5 : decode cX29_space 5 = .ok (.aload_n 0, 1) := dc_42 (by decide +kernel)
theorem dX29_space_6 : decode cX29_space 6 = .ok (.getfield 22, 3) := dc_180 (a := 0) (b := 22) (n := 22) (by decide +kernel)
theorem dX29_space_9 : decode cX29_space 9 = .ok (.lload_n 1, 1) := dc_31 (by decide +kernel)
theorem dX29_space_10 : decode cX29_space 10 = .ok (.ladd, 1) := dc_97 (by decide +kernel)
theorem dX29_space_11 : decode cX29_space 11 = .ok (.ladd, 1) := dc_97 (by decide +kernel)
theorem dX29_space_12 : decode cX29_space 12 = .ok (.putfield 19, 3) := dc_181 (a := 0) (b := 19) (n := 19) (by decide +kernel)
theorem dX29_space_15 : decode cX29_space 15 = .ok (.aload_n 0, 1) := dc_42 (by decide +kernel)
theorem dX29_space_16 : decode cX29_space 16 = .ok (.lconst 0, 1) := dc_9 (by decide +kernel)
theorem dX29_space_17 : decode cX29_space 17 = .ok (.putfield 22, 3) := dc_181 (a := 0) (b := 22) (n := 22) (by decide +kernel)
theorem dX29_space_20 : decode cX29_space 20 = .ok (.return_, 1) := dc_177 (by decide +kernel)
theorem GX29_19 {w : eW} {d : Nat} {Y : eY} {pc : Nat} {ls : eL} {st : List Value} {h : eH} {Q : eO → eH → Prop} {a : Nat} {x : Int64} (hf : g_J 28 h a 2 = some x) (hd : decode Y.2.1 pc = .ok (.getfield 19, 3)) (hY : Y.1.cls = RX29) (kk : wp w d Y (pc + 3) ls (.long x :: st) h Q) : wp w d Y pc ls (.ref a :: st) h Q := x_gJ (ci := 28) (k := 2) hf hd rfl (by decide) (by rw [hY]; exact q1544) kk
theorem GX29_22 {w : eW} {d : Nat} {Y : eY} {pc : Nat} {ls : eL} {st : List Value} {h : eH} {Q : eO → eH → Prop} {a : Nat} {x : Int64} (hf : g_J 28 h a 3 = some x) (hd : decode Y.2.1 pc = .ok (.getfield 22, 3)) (hY : Y.1.cls = RX29) (kk : wp w d Y (pc + 3) ls (.long x :: st) h Q) : wp w d Y pc ls (.ref a :: st) h Q := x_gJ (ci := 28) (k := 3) hf hd rfl (by decide) (by rw [hY]; exact q1546) kk
def fX29_space (this : Nat) (p0 : Int64) (h : eH) : Option (Unit × eH) :=
  (g_J 28 h this 2).bind fun x1 =>
  (g_J 28 h this 3).bind fun x3 =>
  (p_V 28 h this 2 (.long (x1 + (x3 + p0)))).bind fun h5 =>
  (p_V 28 h5 this 3 (.long (0 : Int64))).bind fun h7 =>
  some ((), h7)
theorem pX29_space {w : eW} {d : Nat} (hd : 0 ≤ d) {this : Nat} {p0 : Int64} {h : eH} {q} (hf : fX29_space this p0 h = some q) : wm w d YX29_space [.ref this, .long p0] h (e_is (e_rn c_V q)) := by
  show wp w d YX29_space 0 [some (.ref this), some (.long p0), none] [] h _
  unfold fX29_space at hf
  refine w_aload_n dX29_space_0 rfl rfl ?_
  refine w_dup dX29_space_1 rfl ?_
  obtain ⟨x1, b2, hf⟩ := Option.bind_eq_some_iff.mp hf
  refine GX29_19 b2 dX29_space_2 rfl ?_
  refine w_aload_n dX29_space_5 rfl rfl ?_
  obtain ⟨x3, b4, hf⟩ := Option.bind_eq_some_iff.mp hf
  refine GX29_22 b4 dX29_space_6 rfl ?_
  refine w_lload_n dX29_space_9 rfl rfl ?_
  refine w_ladd dX29_space_10 ?_
  refine w_ladd dX29_space_11 ?_
  obtain ⟨h5, b6, hf⟩ := Option.bind_eq_some_iff.mp hf
  refine SX29_19 b6 dX29_space_12 rfl ?_
  refine w_aload_n dX29_space_15 rfl rfl ?_
  refine w_lconst dX29_space_16 (v := 0) (by decide) ?_
  obtain ⟨h7, b8, hf⟩ := Option.bind_eq_some_iff.mp hf
  refine SX29_22 b8 dX29_space_17 rfl ?_
  cases hf
  exact w_vret dX29_space_20 rfl rfl
abbrev cX29_add : ByteArray := prog_30_method_4_code
def yX29_add : MethodName := ⟨RX29, "add", "(LTypeHouse$PageItems;II)V"⟩
def YX29_add : eY := (yX29_add, cX29_add, 4, none, [])
theorem mX29_add : e_mv YX29_add RX29 3 := ⟨q3242, q3243, q3244, by decide, by decide +kernel, (e_sig (by decide +kernel))⟩
theorem dX29_add_0 : decode cX29_add 0 = .ok (.aload_n 1, 1) := dc_43 (by decide +kernel)
theorem dX29_add_1 : decode cX29_add 1 = .ok (.getfield 25, 3) := dc_180 (a := 0) (b := 25) (n := 25) (by decide +kernel)
theorem dX29_add_4 : decode cX29_add 4 = .ok (.iload_n 2, 1) := dc_28 (by decide +kernel)
theorem dX29_add_5 : decode cX29_add 5 = .ok (.baload, 1) := dc_51 (by decide +kernel)
theorem dX29_add_6 : decode cX29_add 6 = .ok (.tableswitch 158 0 2 #[26, 93, 144], 26) := by decide +kernel
theorem dX29_add_32 : decode cX29_add 32 = .ok (.aload_n 0, 1) := dc_42 (by decide +kernel)
theorem dX29_add_33 : decode cX29_add 33 = .ok (.dup, 1) := dc_89 (by decide +kernel)
theorem dX29_add_34 : decode cX29_add 34 = .ok (.getfield 19, 3) := dc_180 (a := 0) (b := 19) (n := 19) (by decide +kernel)
theorem dX29_add_37 : decode cX29_add 37 = .ok (.aload_n 0, 1) := dc_42 (by decide +kernel)
theorem dX29_add_38 : decode cX29_add 38 = .ok (.getfield 22, 3) := dc_180 (a := 0) (b := 22) (n := 22) (by decide +kernel)
theorem dX29_add_41 : decode cX29_add 41 = .ok (.aload_n 1, 1) := dc_43 (by decide +kernel)
theorem dX29_add_42 : decode cX29_add 42 = .ok (.getfield 31, 3) := dc_180 (a := 0) (b := 31) (n := 31) (by decide +kernel)
theorem dX29_add_45 : decode cX29_add 45 = .ok (.iload_n 2, 1) := dc_28 (by decide +kernel)
theorem dX29_add_46 : decode cX29_add 46 = .ok (.iaload, 1) := dc_46 (by decide +kernel)
theorem dX29_add_47 : decode cX29_add 47 = .ok (.i2l, 1) := dc_133 (by decide +kernel)
theorem dX29_add_48 : decode cX29_add 48 = .ok (.ladd, 1) := dc_97 (by decide +kernel)
theorem dX29_add_49 : decode cX29_add 49 = .ok (.ladd, 1) := dc_97 (by decide +kernel)
theorem dX29_add_50 : decode cX29_add 50 = .ok (.putfield 19, 3) := dc_181 (a := 0) (b := 19) (n := 19) (by decide +kernel)
theorem dX29_add_53 : decode cX29_add 53 = .ok (.aload_n 0, 1) := dc_42 (by decide +kernel)
theorem dX29_add_54 : decode cX29_add 54 = .ok (.aload_n 1, 1) := dc_43 (by decide +kernel)
theorem dX29_add_55 : decode cX29_add 55 = .ok (.getfield 35, 3) := dc_180 (a := 0) (b := 35) (n := 35) (by decide +kernel)
theorem dX29_add_58 : decode cX29_add 58 = .ok (.iload_n 2, 1) := dc_28 (by decide +kernel)
theorem dX29_add_59 : decode cX29_add 59 = .ok (.iaload, 1) := dc_46 (by decide +kernel)
theorem dX29_add_60 : decode cX29_add 60 = .ok (.i2l, 1) := dc_133 (by decide +kernel)
theorem dX29_add_61 : decode cX29_add 61 = .ok (.putfield 22, 3) := dc_181 (a := 0) (b := 22) (n := 22) (by decide +kernel)
theorem dX29_add_64 : decode cX29_add 64 = .ok (.aload_n 0, 1) := dc_42 (by decide +kernel)
theorem dX29_add_65 : decode cX29_add 65 = .ok (.getfield 22, 3) := dc_180 (a := 0) (b := 22) (n := 22) (by decide +kernel)
theorem dX29_add_68 : decode cX29_add 68 = .ok (.iload_n 3, 1) := dc_29 (by decide +kernel)
theorem dX29_add_69 : decode cX29_add 69 = .ok (.i2l, 1) := dc_133 (by decide +kernel)
theorem dX29_add_70 : decode cX29_add 70 = .ok (.lcmp, 1) := dc_148 (by decide +kernel)
theorem dX29_add_71 : decode cX29_add 71 = .ok (.ifCond .le 93, 3) := dc_158 (a := 0) (b := 93) (v := 93) (by decide +kernel)
theorem dX29_add_74 : decode cX29_add 74 = .ok (.aload_n 0, 1) := dc_42 (by decide +kernel)
theorem dX29_add_75 : decode cX29_add 75 = .ok (.dup, 1) := dc_89 (by decide +kernel)
theorem dX29_add_76 : decode cX29_add 76 = .ok (.getfield 19, 3) := dc_180 (a := 0) (b := 19) (n := 19) (by decide +kernel)
theorem dX29_add_79 : decode cX29_add 79 = .ok (.aload_n 0, 1) := dc_42 (by decide +kernel)
theorem dX29_add_80 : decode cX29_add 80 = .ok (.getfield 22, 3) := dc_180 (a := 0) (b := 22) (n := 22) (by decide +kernel)
theorem dX29_add_83 : decode cX29_add 83 = .ok (.iload_n 3, 1) := dc_29 (by decide +kernel)
theorem dX29_add_84 : decode cX29_add 84 = .ok (.i2l, 1) := dc_133 (by decide +kernel)
theorem dX29_add_85 : decode cX29_add 85 = .ok (.lsub, 1) := dc_101 (by decide +kernel)
theorem dX29_add_86 : decode cX29_add 86 = .ok (.ladd, 1) := dc_97 (by decide +kernel)
theorem dX29_add_87 : decode cX29_add 87 = .ok (.putfield 19, 3) := dc_181 (a := 0) (b := 19) (n := 19) (by decide +kernel)
theorem dX29_add_90 : decode cX29_add 90 = .ok (.aload_n 0, 1) := dc_42 (by decide +kernel)
theorem dX29_add_91 : decode cX29_add 91 = .ok (.iload_n 3, 1) := dc_29 (by decide +kernel)
theorem dX29_add_92 : decode cX29_add 92 = .ok (.i2l, 1) := dc_133 (by decide +kernel)
theorem dX29_add_93 : decode cX29_add 93 = .ok (.putfield 22, 3) := dc_181 (a := 0) (b := 22) (n := 22) (by decide +kernel)
theorem dX29_add_96 : decode cX29_add 96 = .ok (.goto 68, 3) := dc_167 (a := 0) (b := 68) (v := 68) (by decide +kernel)
theorem dX29_add_99 : decode cX29_add 99 = .ok (.aload_n 0, 1) := dc_42 (by decide +kernel)
theorem dX29_add_100 : decode cX29_add 100 = .ok (.getfield 9, 3) := dc_180 (a := 0) (b := 9) (n := 9) (by decide +kernel)
theorem dX29_add_103 : decode cX29_add 103 = .ok (.aload_n 1, 1) := dc_43 (by decide +kernel)
theorem dX29_add_104 : decode cX29_add 104 = .ok (.getfield 38, 3) := dc_180 (a := 0) (b := 38) (n := 38) (by decide +kernel)
theorem dX29_add_107 : decode cX29_add 107 = .ok (.iload_n 2, 1) := dc_28 (by decide +kernel)
theorem dX29_add_108 : decode cX29_add 108 = .ok (.baload, 1) := dc_51 (by decide +kernel)
theorem dX29_add_109 : decode cX29_add 109 = .ok (.dup2, 1) := dc_92 (by decide +kernel)
theorem dX29_add_110 : decode cX29_add 110 = .ok (.laload, 1) := dc_47 (by decide +kernel)
theorem dX29_add_111 : decode cX29_add 111 = .ok (.aload_n 1, 1) := dc_43 (by decide +kernel)
theorem dX29_add_112 : decode cX29_add 112 = .ok (.getfield 31, 3) := dc_180 (a := 0) (b := 31) (n := 31) (by decide +kernel)
theorem dX29_add_115 : decode cX29_add 115 = .ok (.iload_n 2, 1) := dc_28 (by decide +kernel)
theorem dX29_add_116 : decode cX29_add 116 = .ok (.iaload, 1) := dc_46 (by decide +kernel)
theorem dX29_add_117 : decode cX29_add 117 = .ok (.i2l, 1) := dc_133 (by decide +kernel)
theorem dX29_add_118 : decode cX29_add 118 = .ok (.ladd, 1) := dc_97 (by decide +kernel)
theorem dX29_add_119 : decode cX29_add 119 = .ok (.lastore, 1) := dc_80 (by decide +kernel)
theorem dX29_add_120 : decode cX29_add 120 = .ok (.aload_n 0, 1) := dc_42 (by decide +kernel)
theorem dX29_add_121 : decode cX29_add 121 = .ok (.dup, 1) := dc_89 (by decide +kernel)
theorem dX29_add_122 : decode cX29_add 122 = .ok (.getfield 15, 3) := dc_180 (a := 0) (b := 15) (n := 15) (by decide +kernel)
theorem dX29_add_125 : decode cX29_add 125 = .ok (.aload_n 1, 1) := dc_43 (by decide +kernel)
theorem dX29_add_126 : decode cX29_add 126 = .ok (.getfield 35, 3) := dc_180 (a := 0) (b := 35) (n := 35) (by decide +kernel)
theorem dX29_add_129 : decode cX29_add 129 = .ok (.iload_n 2, 1) := dc_28 (by decide +kernel)
theorem dX29_add_130 : decode cX29_add 130 = .ok (.iaload, 1) := dc_46 (by decide +kernel)
theorem dX29_add_131 : decode cX29_add 131 = .ok (.i2l, 1) := dc_133 (by decide +kernel)
theorem dX29_add_132 : decode cX29_add 132 = .ok (.ladd, 1) := dc_97 (by decide +kernel)
theorem dX29_add_133 : decode cX29_add 133 = .ok (.putfield 15, 3) := dc_181 (a := 0) (b := 15) (n := 15) (by decide +kernel)
theorem dX29_add_136 : decode cX29_add 136 = .ok (.aload_n 0, 1) := dc_42 (by decide +kernel)
theorem dX29_add_137 : decode cX29_add 137 = .ok (.aload_n 1, 1) := dc_43 (by decide +kernel)
theorem dX29_add_138 : decode cX29_add 138 = .ok (.getfield 41, 3) := dc_180 (a := 0) (b := 41) (n := 41) (by decide +kernel)
theorem dX29_add_141 : decode cX29_add 141 = .ok (.iload_n 2, 1) := dc_28 (by decide +kernel)
theorem dX29_add_142 : decode cX29_add 142 = .ok (.iaload, 1) := dc_46 (by decide +kernel)
theorem dX29_add_143 : decode cX29_add 143 = .ok (.i2l, 1) := dc_133 (by decide +kernel)
theorem dX29_add_144 : decode cX29_add 144 = .ok (.invokevirtual 44, 3) := dc_182 (a := 0) (b := 44) (n := 44) (by decide +kernel)
theorem dX29_add_147 : decode cX29_add 147 = .ok (.goto 17, 3) := dc_167 (a := 0) (b := 17) (v := 17) (by decide +kernel)
theorem dX29_add_150 : decode cX29_add 150 = .ok (.aload_n 0, 1) := dc_42 (by decide +kernel)
theorem dX29_add_151 : decode cX29_add 151 = .ok (.aload_n 1, 1) := dc_43 (by decide +kernel)
theorem dX29_add_152 : decode cX29_add 152 = .ok (.getfield 41, 3) := dc_180 (a := 0) (b := 41) (n := 41) (by decide +kernel)
theorem dX29_add_155 : decode cX29_add 155 = .ok (.iload_n 2, 1) := dc_28 (by decide +kernel)
theorem dX29_add_156 : decode cX29_add 156 = .ok (.iaload, 1) := dc_46 (by decide +kernel)
theorem dX29_add_157 : decode cX29_add 157 = .ok (.i2l, 1) := dc_133 (by decide +kernel)
theorem dX29_add_158 : decode cX29_add 158 = .ok (.invokevirtual 44, 3) := dc_182 (a := 0) (b := 44) (n := 44) (by decide +kernel)
theorem dX29_add_161 : decode cX29_add 161 = .ok (.goto 3, 3) := dc_167 (a := 0) (b := 3) (v := 3) (by decide +kernel)
theorem dX29_add_164 : decode cX29_add 164 = .ok (.return_, 1) := dc_177 (by decide +kernel)
theorem GX29_15 {w : eW} {d : Nat} {Y : eY} {pc : Nat} {ls : eL} {st : List Value} {h : eH} {Q : eO → eH → Prop} {a : Nat} {x : Int64} (hf : g_J 28 h a 1 = some x) (hd : decode Y.2.1 pc = .ok (.getfield 15, 3)) (hY : Y.1.cls = RX29) (kk : wp w d Y (pc + 3) ls (.long x :: st) h Q) : wp w d Y pc ls (.ref a :: st) h Q := x_gJ (ci := 28) (k := 1) hf hd rfl (by decide) (by rw [hY]; exact q1541) kk
theorem GX29_25 {w : eW} {d : Nat} {Y : eY} {pc : Nat} {ls : eL} {st : List Value} {h : eH} {Q : eO → eH → Prop} {a : Nat} {x : Nat} (hf : g_A 26 h a 0 = some x) (hd : decode Y.2.1 pc = .ok (.getfield 25, 3)) (hY : Y.1.cls = RX29) (kk : wp w d Y (pc + 3) ls (.ref x :: st) h Q) : wp w d Y pc ls (.ref a :: st) h Q := x_gAN (ci := 26) (k := 0) hf hd rfl (by decide) (by rw [hY]; exact q1492) kk
theorem GX29_31 {w : eW} {d : Nat} {Y : eY} {pc : Nat} {ls : eL} {st : List Value} {h : eH} {Q : eO → eH → Prop} {a : Nat} {x : Nat} (hf : g_A 26 h a 2 = some x) (hd : decode Y.2.1 pc = .ok (.getfield 31, 3)) (hY : Y.1.cls = RX29) (kk : wp w d Y (pc + 3) ls (.ref x :: st) h Q) : wp w d Y pc ls (.ref a :: st) h Q := x_gAN (ci := 26) (k := 2) hf hd rfl (by decide) (by rw [hY]; exact q1499) kk
theorem GX29_35 {w : eW} {d : Nat} {Y : eY} {pc : Nat} {ls : eL} {st : List Value} {h : eH} {Q : eO → eH → Prop} {a : Nat} {x : Nat} (hf : g_A 26 h a 3 = some x) (hd : decode Y.2.1 pc = .ok (.getfield 35, 3)) (hY : Y.1.cls = RX29) (kk : wp w d Y (pc + 3) ls (.ref x :: st) h Q) : wp w d Y pc ls (.ref a :: st) h Q := x_gAN (ci := 26) (k := 3) hf hd rfl (by decide) (by rw [hY]; exact q1503) kk
theorem GX29_38 {w : eW} {d : Nat} {Y : eY} {pc : Nat} {ls : eL} {st : List Value} {h : eH} {Q : eO → eH → Prop} {a : Nat} {x : Nat} (hf : g_A 26 h a 4 = some x) (hd : decode Y.2.1 pc = .ok (.getfield 38, 3)) (hY : Y.1.cls = RX29) (kk : wp w d Y (pc + 3) ls (.ref x :: st) h Q) : wp w d Y pc ls (.ref a :: st) h Q := x_gAN (ci := 26) (k := 4) hf hd rfl (by decide) (by rw [hY]; exact q1506) kk
theorem GX29_41 {w : eW} {d : Nat} {Y : eY} {pc : Nat} {ls : eL} {st : List Value} {h : eH} {Q : eO → eH → Prop} {a : Nat} {x : Nat} (hf : g_A 26 h a 1 = some x) (hd : decode Y.2.1 pc = .ok (.getfield 41, 3)) (hY : Y.1.cls = RX29) (kk : wp w d Y (pc + 3) ls (.ref x :: st) h Q) : wp w d Y pc ls (.ref a :: st) h Q := x_gAN (ci := 26) (k := 1) hf hd rfl (by decide) (by rw [hY]; exact q1495) kk
def fX29_add_b164  (h : eH) : Option (Unit × eH) :=
  some ((), h)
theorem pX29_add_b164 {w : eW} {d : Nat} (hd : 1 ≤ d + 1)  {h : eH} {q} (hf : fX29_add_b164  h = some q) : wp w (d + 1) YX29_add 164 [none, none, none, none] [] h (e_is (e_rn c_V q)) := by
  unfold fX29_add_b164 at hf
  cases hf
  exact w_vret dX29_add_164 rfl rfl
def fX29_add (this : Nat) (p0 : Nat) (p1 : Int32) (p2 : Int32) (h : eH) : Option (Unit × eH) :=
  (g_A 26 h p0 0).bind fun a1 =>
  (r_I 102 h a1 p1).bind fun x3 =>
  if x3 = (0 : Int32) then
    (g_J 28 h this 2).bind fun x6 =>
    (g_J 28 h this 3).bind fun x8 =>
    (g_A 26 h p0 2).bind fun a10 =>
    (r_I 100 h a10 p1).bind fun x12 =>
    (p_V 28 h this 2 (.long (x6 + (x8 + (x12).toInt64)))).bind fun h14 =>
    (g_A 26 h14 p0 3).bind fun a16 =>
    (r_I 100 h14 a16 p1).bind fun x18 =>
    (p_V 28 h14 this 3 (.long (x18).toInt64)).bind fun h20 =>
    (g_J 28 h20 this 3).bind fun x22 =>
    if (lg_cmp x22 (p2).toInt64) ≤ 0 then
      fX29_add_b164 h20
    else
      (g_J 28 h20 this 2).bind fun x25 =>
      (g_J 28 h20 this 3).bind fun x27 =>
      (p_V 28 h20 this 2 (.long (x25 + (x27 - (p2).toInt64)))).bind fun h29 =>
      (p_V 28 h29 this 3 (.long (p2).toInt64)).bind fun h31 =>
      fX29_add_b164 h31
  else
  if x3 = (1 : Int32) then
    (g_A 28 h this 0).bind fun a34 =>
    (g_A 26 h p0 4).bind fun a36 =>
    (r_I 102 h a36 p1).bind fun x38 =>
    (r_J h a34 x38).bind fun x40 =>
    (g_A 26 h p0 2).bind fun a42 =>
    (r_I 100 h a42 p1).bind fun x44 =>
    (q_V 101 h a34 x38 (.long (x40 + (x44).toInt64))).bind fun h46 =>
    (g_J 28 h46 this 1).bind fun x48 =>
    (g_A 26 h46 p0 3).bind fun a50 =>
    (r_I 100 h46 a50 p1).bind fun x52 =>
    (p_V 28 h46 this 1 (.long (x48 + (x52).toInt64))).bind fun h54 =>
    (g_A 26 h54 p0 1).bind fun a56 =>
    (r_I 100 h54 a56 p1).bind fun x58 =>
    (k_ok 28 h54 this).bind fun _ =>
    (fX29_space this (x58).toInt64 h54).bind fun q61 =>
    fX29_add_b164 q61.2
  else
  if x3 = (2 : Int32) then
    (g_A 26 h p0 1).bind fun a63 =>
    (r_I 100 h a63 p1).bind fun x65 =>
    (k_ok 28 h this).bind fun _ =>
    (fX29_space this (x65).toInt64 h).bind fun q68 =>
    fX29_add_b164 q68.2
  else
  fX29_add_b164 h
theorem pX29_add {w : eW} {d : Nat} (hd : 1 ≤ d) {this : Nat} {p0 : Nat} {p1 : Int32} {p2 : Int32} {h : eH} {q} (hf : fX29_add this p0 p1 p2 h = some q) : wm w d YX29_add [.ref this, .ref p0, .int p1, .int p2] h (e_is (e_rn c_V q)) := by
  obtain ⟨d, rfl⟩ : ∃ e, d = e + 1 := ⟨d - 1, by omega⟩
  show wp w (d + 1) YX29_add 0 [some (.ref this), some (.ref p0), some (.int p1), some (.int p2)] [] h _
  unfold fX29_add at hf
  refine w_aload_n dX29_add_0 rfl rfl ?_
  obtain ⟨a1, b2, hf⟩ := Option.bind_eq_some_iff.mp hf
  refine GX29_25 b2 dX29_add_1 rfl ?_
  refine w_iload_n dX29_add_4 rfl rfl ?_
  obtain ⟨x3, b4, hf⟩ := Option.bind_eq_some_iff.mp hf
  refine x_rB b4 dX29_add_5 ?_
  by_cases c5 : x3 = (0 : Int32)
  · replace hf := (if_pos c5).symm.trans hf
    refine w_tableIn 32 dX29_add_6 (by rw [c5]; decide) (by rw [c5]; decide) (by rw [c5]; rfl) (by decide) ?_
    refine w_aload_n dX29_add_32 rfl rfl ?_
    refine w_dup dX29_add_33 rfl ?_
    obtain ⟨x6, b7, hf⟩ := Option.bind_eq_some_iff.mp hf
    refine GX29_19 b7 dX29_add_34 rfl ?_
    refine w_aload_n dX29_add_37 rfl rfl ?_
    obtain ⟨x8, b9, hf⟩ := Option.bind_eq_some_iff.mp hf
    refine GX29_22 b9 dX29_add_38 rfl ?_
    refine w_aload_n dX29_add_41 rfl rfl ?_
    obtain ⟨a10, b11, hf⟩ := Option.bind_eq_some_iff.mp hf
    refine GX29_31 b11 dX29_add_42 rfl ?_
    refine w_iload_n dX29_add_45 rfl rfl ?_
    obtain ⟨x12, b13, hf⟩ := Option.bind_eq_some_iff.mp hf
    refine x_rI b13 dX29_add_46 ?_
    refine w_i2l dX29_add_47 ?_
    refine w_ladd dX29_add_48 ?_
    refine w_ladd dX29_add_49 ?_
    obtain ⟨h14, b15, hf⟩ := Option.bind_eq_some_iff.mp hf
    refine SX29_19 b15 dX29_add_50 rfl ?_
    refine w_aload_n dX29_add_53 rfl rfl ?_
    refine w_aload_n dX29_add_54 rfl rfl ?_
    obtain ⟨a16, b17, hf⟩ := Option.bind_eq_some_iff.mp hf
    refine GX29_35 b17 dX29_add_55 rfl ?_
    refine w_iload_n dX29_add_58 rfl rfl ?_
    obtain ⟨x18, b19, hf⟩ := Option.bind_eq_some_iff.mp hf
    refine x_rI b19 dX29_add_59 ?_
    refine w_i2l dX29_add_60 ?_
    obtain ⟨h20, b21, hf⟩ := Option.bind_eq_some_iff.mp hf
    refine SX29_22 b21 dX29_add_61 rfl ?_
    refine w_aload_n dX29_add_64 rfl rfl ?_
    obtain ⟨x22, b23, hf⟩ := Option.bind_eq_some_iff.mp hf
    refine GX29_22 b23 dX29_add_65 rfl ?_
    refine w_iload_n dX29_add_68 rfl rfl ?_
    refine w_i2l dX29_add_69 ?_
    refine w_lcmp dX29_add_70 ?_
    refine w_if_le 164 dX29_add_71 (by decide) (fun c24 => ?_) (fun c24 => ?_)
    · replace hf := (if_pos (show (lg_cmp x22 (p2).toInt64) ≤ 0 from c24)).symm.trans hf
      exact (pX29_add_b164 hd hf).to trivial
    · replace hf := (if_neg (show ¬ ((lg_cmp x22 (p2).toInt64) ≤ 0) from c24)).symm.trans hf
      refine w_aload_n dX29_add_74 rfl rfl ?_
      refine w_dup dX29_add_75 rfl ?_
      obtain ⟨x25, b26, hf⟩ := Option.bind_eq_some_iff.mp hf
      refine GX29_19 b26 dX29_add_76 rfl ?_
      refine w_aload_n dX29_add_79 rfl rfl ?_
      obtain ⟨x27, b28, hf⟩ := Option.bind_eq_some_iff.mp hf
      refine GX29_22 b28 dX29_add_80 rfl ?_
      refine w_iload_n dX29_add_83 rfl rfl ?_
      refine w_i2l dX29_add_84 ?_
      refine w_lsub dX29_add_85 ?_
      refine w_ladd dX29_add_86 ?_
      obtain ⟨h29, b30, hf⟩ := Option.bind_eq_some_iff.mp hf
      refine SX29_19 b30 dX29_add_87 rfl ?_
      refine w_aload_n dX29_add_90 rfl rfl ?_
      refine w_iload_n dX29_add_91 rfl rfl ?_
      refine w_i2l dX29_add_92 ?_
      obtain ⟨h31, b32, hf⟩ := Option.bind_eq_some_iff.mp hf
      refine SX29_22 b32 dX29_add_93 rfl ?_
      refine w_goto 164 dX29_add_96 (by decide) ?_
      exact (pX29_add_b164 hd hf).to trivial
  replace hf := (if_neg c5).symm.trans hf
  by_cases c33 : x3 = (1 : Int32)
  · replace hf := (if_pos c33).symm.trans hf
    refine w_tableIn 99 dX29_add_6 (by rw [c33]; decide) (by rw [c33]; decide) (by rw [c33]; rfl) (by decide) ?_
    refine w_aload_n dX29_add_99 rfl rfl ?_
    obtain ⟨a34, b35, hf⟩ := Option.bind_eq_some_iff.mp hf
    refine GX29_9 b35 dX29_add_100 rfl ?_
    refine w_aload_n dX29_add_103 rfl rfl ?_
    obtain ⟨a36, b37, hf⟩ := Option.bind_eq_some_iff.mp hf
    refine GX29_38 b37 dX29_add_104 rfl ?_
    refine w_iload_n dX29_add_107 rfl rfl ?_
    obtain ⟨x38, b39, hf⟩ := Option.bind_eq_some_iff.mp hf
    refine x_rB b39 dX29_add_108 ?_
    refine w_dup2_11 dX29_add_109 rfl rfl ?_
    obtain ⟨x40, b41, hf⟩ := Option.bind_eq_some_iff.mp hf
    refine x_rJ b41 dX29_add_110 ?_
    refine w_aload_n dX29_add_111 rfl rfl ?_
    obtain ⟨a42, b43, hf⟩ := Option.bind_eq_some_iff.mp hf
    refine GX29_31 b43 dX29_add_112 rfl ?_
    refine w_iload_n dX29_add_115 rfl rfl ?_
    obtain ⟨x44, b45, hf⟩ := Option.bind_eq_some_iff.mp hf
    refine x_rI b45 dX29_add_116 ?_
    refine w_i2l dX29_add_117 ?_
    refine w_ladd dX29_add_118 ?_
    obtain ⟨h46, b47, hf⟩ := Option.bind_eq_some_iff.mp hf
    refine x_qJ b47 dX29_add_119 ?_
    refine w_aload_n dX29_add_120 rfl rfl ?_
    refine w_dup dX29_add_121 rfl ?_
    obtain ⟨x48, b49, hf⟩ := Option.bind_eq_some_iff.mp hf
    refine GX29_15 b49 dX29_add_122 rfl ?_
    refine w_aload_n dX29_add_125 rfl rfl ?_
    obtain ⟨a50, b51, hf⟩ := Option.bind_eq_some_iff.mp hf
    refine GX29_35 b51 dX29_add_126 rfl ?_
    refine w_iload_n dX29_add_129 rfl rfl ?_
    obtain ⟨x52, b53, hf⟩ := Option.bind_eq_some_iff.mp hf
    refine x_rI b53 dX29_add_130 ?_
    refine w_i2l dX29_add_131 ?_
    refine w_ladd dX29_add_132 ?_
    obtain ⟨h54, b55, hf⟩ := Option.bind_eq_some_iff.mp hf
    refine SX29_15 b55 dX29_add_133 rfl ?_
    refine w_aload_n dX29_add_136 rfl rfl ?_
    refine w_aload_n dX29_add_137 rfl rfl ?_
    obtain ⟨a56, b57, hf⟩ := Option.bind_eq_some_iff.mp hf
    refine GX29_41 b57 dX29_add_138 rfl ?_
    refine w_iload_n dX29_add_141 rfl rfl ?_
    obtain ⟨x58, b59, hf⟩ := Option.bind_eq_some_iff.mp hf
    refine x_rI b59 dX29_add_142 ?_
    refine w_i2l dX29_add_143 ?_
    obtain ⟨_, b60, hf⟩ := Option.bind_eq_some_iff.mp hf
    refine x_cnV hf (e_stV (Yc := YX29_space) (ci := 28) (av := [.long (x58).toInt64]) (st := []) dX29_add_144 q3245 mX29_space rfl (k_ok_some b60).1 (k_ok_some b60).2) mX29_space.2.2.1 mX29_space.2.2.2.2.1 (Nat.le_of_ble_eq_true rfl) (Nat.le_of_ble_eq_true rfl) (fun q hq => pX29_space (by omega) hq) (fun q61 hf => ?_)
    refine w_goto 164 dX29_add_147 (by decide) ?_
    exact (pX29_add_b164 hd hf).to trivial
  replace hf := (if_neg c33).symm.trans hf
  by_cases c62 : x3 = (2 : Int32)
  · replace hf := (if_pos c62).symm.trans hf
    refine w_tableIn 150 dX29_add_6 (by rw [c62]; decide) (by rw [c62]; decide) (by rw [c62]; rfl) (by decide) ?_
    refine w_aload_n dX29_add_150 rfl rfl ?_
    refine w_aload_n dX29_add_151 rfl rfl ?_
    obtain ⟨a63, b64, hf⟩ := Option.bind_eq_some_iff.mp hf
    refine GX29_41 b64 dX29_add_152 rfl ?_
    refine w_iload_n dX29_add_155 rfl rfl ?_
    obtain ⟨x65, b66, hf⟩ := Option.bind_eq_some_iff.mp hf
    refine x_rI b66 dX29_add_156 ?_
    refine w_i2l dX29_add_157 ?_
    obtain ⟨_, b67, hf⟩ := Option.bind_eq_some_iff.mp hf
    refine x_cnV hf (e_stV (Yc := YX29_space) (ci := 28) (av := [.long (x65).toInt64]) (st := []) dX29_add_158 q3245 mX29_space rfl (k_ok_some b67).1 (k_ok_some b67).2) mX29_space.2.2.1 mX29_space.2.2.2.2.1 (Nat.le_of_ble_eq_true rfl) (Nat.le_of_ble_eq_true rfl) (fun q hq => pX29_space (by omega) hq) (fun q68 hf => ?_)
    refine w_goto 164 dX29_add_161 (by decide) ?_
    exact (pX29_add_b164 hd hf).to trivial
  replace hf := (if_neg c62).symm.trans hf
  refine w_tableOut 164 dX29_add_6 (by have n0 := sw_ne c5 (by decide : (0 : Int32).toInt = 0); have n1 := sw_ne c33 (by decide : (1 : Int32).toInt = 1); have n2 := sw_ne c62 (by decide : (2 : Int32).toInt = 2); omega) (by decide) ?_
  exact (pX29_add_b164 hd hf).to trivial
abbrev cX28_penalty : ByteArray := prog_21_method_6_code
def yX28_penalty : MethodName := ⟨RX28, "penalty", "(I)I"⟩
def YX28_penalty : eY := (yX28_penalty, cX28_penalty, 3, (Option.some FieldType.int), [])
theorem mX28_penalty : e_mv YX28_penalty RX28 1 := ⟨q3251, qs122, q3252, by decide, by decide +kernel, (e_sig (by decide +kernel))⟩
theorem dX28_penalty_0 : decode cX28_penalty 0 = .ok (.aload_n 0, 1) := dc_42 (by decide +kernel)
theorem dX28_penalty_1 : decode cX28_penalty 1 = .ok (.getfield 31, 3) := dc_180 (a := 0) (b := 31) (n := 31) (by decide +kernel)
theorem dX28_penalty_4 : decode cX28_penalty 4 = .ok (.iload_n 1, 1) := dc_27 (by decide +kernel)
theorem dX28_penalty_5 : decode cX28_penalty 5 = .ok (.invokevirtual 81, 3) := dc_182 (a := 0) (b := 81) (n := 81) (by decide +kernel)
theorem dX28_penalty_8 : decode cX28_penalty 8 = .ok (.istore_n 2, 1) := dc_61 (by decide +kernel)
theorem dX28_penalty_9 : decode cX28_penalty 9 = .ok (.iload_n 2, 1) := dc_28 (by decide +kernel)
theorem dX28_penalty_10 : decode cX28_penalty 10 = .ok (.iconst 1, 1) := dc_4 (by decide +kernel)
theorem dX28_penalty_11 : decode cX28_penalty 11 = .ok (.if_icmp .ne 24, 3) := dc_160 (a := 0) (b := 24) (v := 24) (by decide +kernel)
theorem dX28_penalty_14 : decode cX28_penalty 14 = .ok (.aload_n 0, 1) := dc_42 (by decide +kernel)
theorem dX28_penalty_15 : decode cX28_penalty 15 = .ok (.getfield 31, 3) := dc_180 (a := 0) (b := 31) (n := 31) (by decide +kernel)
theorem dX28_penalty_18 : decode cX28_penalty 18 = .ok (.iload_n 1, 1) := dc_27 (by decide +kernel)
theorem dX28_penalty_19 : decode cX28_penalty 19 = .ok (.iconst 1, 1) := dc_4 (by decide +kernel)
theorem dX28_penalty_20 : decode cX28_penalty 20 = .ok (.isub, 1) := dc_100 (by decide +kernel)
theorem dX28_penalty_21 : decode cX28_penalty 21 = .ok (.invokevirtual 81, 3) := dc_182 (a := 0) (b := 81) (n := 81) (by decide +kernel)
theorem dX28_penalty_24 : decode cX28_penalty 24 = .ok (.ifCond .ne 7, 3) := dc_154 (a := 0) (b := 7) (v := 7) (by decide +kernel)
theorem dX28_penalty_27 : decode cX28_penalty 27 = .ok (.iconst 0, 1) := dc_3 (by decide +kernel)
theorem dX28_penalty_28 : decode cX28_penalty 28 = .ok (.goto 6, 3) := dc_167 (a := 0) (b := 6) (v := 6) (by decide +kernel)
theorem dX28_penalty_31 : decode cX28_penalty 31 = .ok (.sipush 10000, 3) := dc_17 (a := 39) (b := 16) (v := 10000) (by decide +kernel)
theorem dX28_penalty_34 : decode cX28_penalty 34 = .ok (.ireturn, 1) := dc_172 (by decide +kernel)
theorem dX28_penalty_35 : decode cX28_penalty 35 = .ok (.iload_n 2, 1) := dc_28 (by decide +kernel)
theorem dX28_penalty_36 : decode cX28_penalty 36 = .ok (.iconst 2, 1) := dc_5 (by decide +kernel)
theorem dX28_penalty_37 : decode cX28_penalty 37 = .ok (.if_icmp .ne 25, 3) := dc_160 (a := 0) (b := 25) (v := 25) (by decide +kernel)
theorem dX28_penalty_40 : decode cX28_penalty 40 = .ok (.aload_n 0, 1) := dc_42 (by decide +kernel)
theorem dX28_penalty_41 : decode cX28_penalty 41 = .ok (.getfield 31, 3) := dc_180 (a := 0) (b := 31) (n := 31) (by decide +kernel)
theorem dX28_penalty_44 : decode cX28_penalty 44 = .ok (.iload_n 1, 1) := dc_27 (by decide +kernel)
theorem dX28_penalty_45 : decode cX28_penalty 45 = .ok (.iconst 1, 1) := dc_4 (by decide +kernel)
theorem dX28_penalty_46 : decode cX28_penalty 46 = .ok (.iadd, 1) := dc_96 (by decide +kernel)
theorem dX28_penalty_47 : decode cX28_penalty 47 = .ok (.invokevirtual 81, 3) := dc_182 (a := 0) (b := 81) (n := 81) (by decide +kernel)
theorem dX28_penalty_50 : decode cX28_penalty 50 = .ok (.iconst 1, 1) := dc_4 (by decide +kernel)
theorem dX28_penalty_51 : decode cX28_penalty 51 = .ok (.if_icmp .ne 7, 3) := dc_160 (a := 0) (b := 7) (v := 7) (by decide +kernel)
theorem dX28_penalty_54 : decode cX28_penalty 54 = .ok (.iconst 0, 1) := dc_3 (by decide +kernel)
theorem dX28_penalty_55 : decode cX28_penalty 55 = .ok (.goto 6, 3) := dc_167 (a := 0) (b := 6) (v := 6) (by decide +kernel)
theorem dX28_penalty_58 : decode cX28_penalty 58 = .ok (.sipush 10000, 3) := dc_17 (a := 39) (b := 16) (v := 10000) (by decide +kernel)
theorem dX28_penalty_61 : decode cX28_penalty 61 = .ok (.ireturn, 1) := dc_172 (by decide +kernel)
theorem dX28_penalty_62 : decode cX28_penalty 62 = .ok (.iload_n 2, 1) := dc_28 (by decide +kernel)
theorem dX28_penalty_63 : decode cX28_penalty 63 = .ok (.iconst 3, 1) := dc_6 (by decide +kernel)
theorem dX28_penalty_64 : decode cX28_penalty 64 = .ok (.if_icmp .ne 15, 3) := dc_160 (a := 0) (b := 15) (v := 15) (by decide +kernel)
theorem dX28_penalty_67 : decode cX28_penalty 67 = .ok (.aload_n 0, 1) := dc_42 (by decide +kernel)
theorem dX28_penalty_68 : decode cX28_penalty 68 = .ok (.getfield 31, 3) := dc_180 (a := 0) (b := 31) (n := 31) (by decide +kernel)
theorem dX28_penalty_71 : decode cX28_penalty 71 = .ok (.getfield 86, 3) := dc_180 (a := 0) (b := 86) (n := 86) (by decide +kernel)
theorem dX28_penalty_74 : decode cX28_penalty 74 = .ok (.iload_n 1, 1) := dc_27 (by decide +kernel)
theorem dX28_penalty_75 : decode cX28_penalty 75 = .ok (.iaload, 1) := dc_46 (by decide +kernel)
theorem dX28_penalty_76 : decode cX28_penalty 76 = .ok (.goto 6, 3) := dc_167 (a := 0) (b := 6) (v := 6) (by decide +kernel)
theorem dX28_penalty_79 : decode cX28_penalty 79 = .ok (.sipush 10000, 3) := dc_17 (a := 39) (b := 16) (v := 10000) (by decide +kernel)
theorem dX28_penalty_82 : decode cX28_penalty 82 = .ok (.ireturn, 1) := dc_172 (by decide +kernel)
theorem GX28_86 {w : eW} {d : Nat} {Y : eY} {pc : Nat} {ls : eL} {st : List Value} {h : eH} {Q : eO → eH → Prop} {a : Nat} {x : Nat} (hf : g_A 26 h a 1 = some x) (hd : decode Y.2.1 pc = .ok (.getfield 86, 3)) (hY : Y.1.cls = RX28) (kk : wp w d Y (pc + 3) ls (.ref x :: st) h Q) : wp w d Y pc ls (.ref a :: st) h Q := x_gAN (ci := 26) (k := 1) hf hd rfl (by decide) (by rw [hY]; exact q1496) kk
def fX28_penalty_b34 (s0 : Int32) (h : eH) : Option (Int32 × eH) :=
  some (s0, h)
theorem pX28_penalty_b34 {w : eW} {d : Nat} (hd : 1 ≤ d + 1) {s0 : Int32} {h : eH} {q} (hf : fX28_penalty_b34 s0 h = some q) : wp w (d + 1) YX28_penalty 34 [none, none, none] [.int s0] h (e_is (e_rn c_I q)) := by
  unfold fX28_penalty_b34 at hf
  cases hf
  exact w_iret dX28_penalty_34 rfl rfl rfl
def fX28_penalty_b61 (s0 : Int32) (h : eH) : Option (Int32 × eH) :=
  some (s0, h)
theorem pX28_penalty_b61 {w : eW} {d : Nat} (hd : 1 ≤ d + 1) {s0 : Int32} {h : eH} {q} (hf : fX28_penalty_b61 s0 h = some q) : wp w (d + 1) YX28_penalty 61 [none, none, none] [.int s0] h (e_is (e_rn c_I q)) := by
  unfold fX28_penalty_b61 at hf
  cases hf
  exact w_iret dX28_penalty_61 rfl rfl rfl
def fX28_penalty_b82 (s0 : Int32) (h : eH) : Option (Int32 × eH) :=
  some (s0, h)
theorem pX28_penalty_b82 {w : eW} {d : Nat} (hd : 1 ≤ d + 1) {s0 : Int32} {h : eH} {q} (hf : fX28_penalty_b82 s0 h = some q) : wp w (d + 1) YX28_penalty 82 [none, none, none] [.int s0] h (e_is (e_rn c_I q)) := by
  unfold fX28_penalty_b82 at hf
  cases hf
  exact w_iret dX28_penalty_82 rfl rfl rfl
def fX28_penalty (this : Nat) (p0 : Int32) (h : eH) : Option (Int32 × eH) :=
  (g_A 27 h this 0).bind fun a1 =>
  (k_ok 26 h a1).bind fun _ =>
  (fX27_kind a1 p0 h).bind fun q4 =>
  if ¬ q4.1 = (1 : Int32) then
    if ¬ q4.1 = (2 : Int32) then
      if ¬ q4.1 = (3 : Int32) then
        fX28_penalty_b82 (10000 : Int32) q4.2
      else
        (g_A 27 q4.2 this 0).bind fun a8 =>
        (g_A 26 q4.2 a8 1).bind fun a10 =>
        (r_I 100 q4.2 a10 p0).bind fun x12 =>
        fX28_penalty_b82 x12 q4.2
    else
      (g_A 27 q4.2 this 0).bind fun a14 =>
      (k_ok 26 q4.2 a14).bind fun _ =>
      (fX27_kind a14 (p0 + (1 : Int32)) q4.2).bind fun q17 =>
      if ¬ q17.1 = (1 : Int32) then
        fX28_penalty_b61 (10000 : Int32) q17.2
      else
        fX28_penalty_b61 (0 : Int32) q17.2
  else
    (g_A 27 q4.2 this 0).bind fun a19 =>
    (k_ok 26 q4.2 a19).bind fun _ =>
    (fX27_kind a19 (p0 - (1 : Int32)) q4.2).bind fun q22 =>
    if ¬ q22.1 = 0 then
      fX28_penalty_b34 (10000 : Int32) q22.2
    else
      fX28_penalty_b34 (0 : Int32) q22.2
theorem pX28_penalty {w : eW} {d : Nat} (hd : 1 ≤ d) {this : Nat} {p0 : Int32} {h : eH} {q} (hf : fX28_penalty this p0 h = some q) : wm w d YX28_penalty [.ref this, .int p0] h (e_is (e_rn c_I q)) := by
  obtain ⟨d, rfl⟩ : ∃ e, d = e + 1 := ⟨d - 1, by omega⟩
  show wp w (d + 1) YX28_penalty 0 [some (.ref this), some (.int p0), none] [] h _
  unfold fX28_penalty at hf
  refine w_aload_n dX28_penalty_0 rfl rfl ?_
  obtain ⟨a1, b2, hf⟩ := Option.bind_eq_some_iff.mp hf
  refine GX28_31 b2 dX28_penalty_1 rfl ?_
  refine w_iload_n dX28_penalty_4 rfl rfl ?_
  obtain ⟨_, b3, hf⟩ := Option.bind_eq_some_iff.mp hf
  refine x_cnI hf (e_stV (Yc := YX27_kind) (ci := 26) (av := [.int p0]) (st := []) dX28_penalty_5 q3221 mX27_kind rfl (k_ok_some b3).1 (k_ok_some b3).2) mX27_kind.2.2.1 mX27_kind.2.2.2.2.1 (Nat.le_of_ble_eq_true rfl) (Nat.le_of_ble_eq_true rfl) (fun q hq => pX27_kind (by omega) hq) (fun q4 hf => ?_)
  refine w_istore_n dX28_penalty_8 rfl (by decide) (ls' := [some (.ref this), some (.int p0), some (.int q4.1)]) rfl ?_
  refine w_iload_n dX28_penalty_9 rfl rfl ?_
  refine w_iconst dX28_penalty_10 (v := 1) (by decide) ?_
  refine w_icmp_ne 35 dX28_penalty_11 (by decide) (fun c5 => ?_) (fun c5 => ?_)
  · replace hf := (if_pos (show ¬ q4.1 = (1 : Int32) from c5)).symm.trans hf
    refine w_iload_n dX28_penalty_35 rfl rfl ?_
    refine w_iconst dX28_penalty_36 (v := 2) (by decide) ?_
    refine w_icmp_ne 62 dX28_penalty_37 (by decide) (fun c6 => ?_) (fun c6 => ?_)
    · replace hf := (if_pos (show ¬ q4.1 = (2 : Int32) from c6)).symm.trans hf
      refine w_iload_n dX28_penalty_62 rfl rfl ?_
      refine w_iconst dX28_penalty_63 (v := 3) (by decide) ?_
      refine w_icmp_ne 79 dX28_penalty_64 (by decide) (fun c7 => ?_) (fun c7 => ?_)
      · replace hf := (if_pos (show ¬ q4.1 = (3 : Int32) from c7)).symm.trans hf
        refine w_sipush dX28_penalty_79 (v := 10000) (by decide) ?_
        exact (pX28_penalty_b82 hd hf).to trivial
      · replace hf := (if_neg (show ¬ (¬ q4.1 = (3 : Int32)) from (fun z => z c7))).symm.trans hf
        refine w_aload_n dX28_penalty_67 rfl rfl ?_
        obtain ⟨a8, b9, hf⟩ := Option.bind_eq_some_iff.mp hf
        refine GX28_31 b9 dX28_penalty_68 rfl ?_
        obtain ⟨a10, b11, hf⟩ := Option.bind_eq_some_iff.mp hf
        refine GX28_86 b11 dX28_penalty_71 rfl ?_
        refine w_iload_n dX28_penalty_74 rfl rfl ?_
        obtain ⟨x12, b13, hf⟩ := Option.bind_eq_some_iff.mp hf
        refine x_rI b13 dX28_penalty_75 ?_
        refine w_goto 82 dX28_penalty_76 (by decide) ?_
        exact (pX28_penalty_b82 hd hf).to trivial
    · replace hf := (if_neg (show ¬ (¬ q4.1 = (2 : Int32)) from (fun z => z c6))).symm.trans hf
      refine w_aload_n dX28_penalty_40 rfl rfl ?_
      obtain ⟨a14, b15, hf⟩ := Option.bind_eq_some_iff.mp hf
      refine GX28_31 b15 dX28_penalty_41 rfl ?_
      refine w_iload_n dX28_penalty_44 rfl rfl ?_
      refine w_iconst dX28_penalty_45 (v := 1) (by decide) ?_
      refine w_iadd dX28_penalty_46 ?_
      obtain ⟨_, b16, hf⟩ := Option.bind_eq_some_iff.mp hf
      refine x_cnI hf (e_stV (Yc := YX27_kind) (ci := 26) (av := [.int (p0 + (1 : Int32))]) (st := []) dX28_penalty_47 q3221 mX27_kind rfl (k_ok_some b16).1 (k_ok_some b16).2) mX27_kind.2.2.1 mX27_kind.2.2.2.2.1 (Nat.le_of_ble_eq_true rfl) (Nat.le_of_ble_eq_true rfl) (fun q hq => pX27_kind (by omega) hq) (fun q17 hf => ?_)
      refine w_iconst dX28_penalty_50 (v := 1) (by decide) ?_
      refine w_icmp_ne 58 dX28_penalty_51 (by decide) (fun c18 => ?_) (fun c18 => ?_)
      · replace hf := (if_pos (show ¬ q17.1 = (1 : Int32) from c18)).symm.trans hf
        refine w_sipush dX28_penalty_58 (v := 10000) (by decide) ?_
        exact (pX28_penalty_b61 hd hf).to trivial
      · replace hf := (if_neg (show ¬ (¬ q17.1 = (1 : Int32)) from (fun z => z c18))).symm.trans hf
        refine w_iconst dX28_penalty_54 (v := 0) (by decide) ?_
        refine w_goto 61 dX28_penalty_55 (by decide) ?_
        exact (pX28_penalty_b61 hd hf).to trivial
  · replace hf := (if_neg (show ¬ (¬ q4.1 = (1 : Int32)) from (fun z => z c5))).symm.trans hf
    refine w_aload_n dX28_penalty_14 rfl rfl ?_
    obtain ⟨a19, b20, hf⟩ := Option.bind_eq_some_iff.mp hf
    refine GX28_31 b20 dX28_penalty_15 rfl ?_
    refine w_iload_n dX28_penalty_18 rfl rfl ?_
    refine w_iconst dX28_penalty_19 (v := 1) (by decide) ?_
    refine w_isub dX28_penalty_20 ?_
    obtain ⟨_, b21, hf⟩ := Option.bind_eq_some_iff.mp hf
    refine x_cnI hf (e_stV (Yc := YX27_kind) (ci := 26) (av := [.int (p0 - (1 : Int32))]) (st := []) dX28_penalty_21 q3221 mX27_kind rfl (k_ok_some b21).1 (k_ok_some b21).2) mX27_kind.2.2.1 mX27_kind.2.2.2.2.1 (Nat.le_of_ble_eq_true rfl) (Nat.le_of_ble_eq_true rfl) (fun q hq => pX27_kind (by omega) hq) (fun q22 hf => ?_)
    refine w_if_ne 31 dX28_penalty_24 (by decide) (fun c23 => ?_) (fun c23 => ?_)
    · replace hf := (if_pos (show ¬ q22.1 = 0 from c23)).symm.trans hf
      refine w_sipush dX28_penalty_31 (v := 10000) (by decide) ?_
      exact (pX28_penalty_b34 hd hf).to trivial
    · replace hf := (if_neg (show ¬ (¬ q22.1 = 0) from (fun z => z c23))).symm.trans hf
      refine w_iconst dX28_penalty_27 (v := 0) (by decide) ?_
      refine w_goto 34 dX28_penalty_28 (by decide) ?_
      exact (pX28_penalty_b34 hd hf).to trivial
abbrev cX29_order : ByteArray := prog_30_method_6_code
def yX29_order : MethodName := ⟨RX29, "order", "()I"⟩
def YX29_order : eY := (yX29_order, cX29_order, 2, (Option.some FieldType.int), [])
theorem mX29_order : e_mv YX29_order RX29 0 := ⟨q3266, q3267, q3268, by decide, by decide +kernel, (e_sig (by decide +kernel))⟩
theorem dX29_order_0 : decode cX29_order 0 = .ok (.iconst 3, 1) := dc_6 (by decide +kernel)
theorem dX29_order_1 : decode cX29_order 1 = .ok (.istore_n 1, 1) := dc_60 (by decide +kernel)
theorem dX29_order_2 : decode cX29_order 2 = .ok (.iload_n 1, 1) := dc_27 (by decide +kernel)
theorem dX29_order_3 : decode cX29_order 3 = .ok (.ifCond .le 20, 3) := dc_158 (a := 0) (b := 20) (v := 20) (by decide +kernel)
theorem dX29_order_6 : decode cX29_order 6 = .ok (.aload_n 0, 1) := dc_42 (by decide +kernel)
theorem dX29_order_7 : decode cX29_order 7 = .ok (.getfield 9, 3) := dc_180 (a := 0) (b := 9) (n := 9) (by decide +kernel)
theorem dX29_order_10 : decode cX29_order 10 = .ok (.iload_n 1, 1) := dc_27 (by decide +kernel)
theorem dX29_order_11 : decode cX29_order 11 = .ok (.laload, 1) := dc_47 (by decide +kernel)
theorem dX29_order_12 : decode cX29_order 12 = .ok (.lconst 0, 1) := dc_9 (by decide +kernel)
theorem dX29_order_13 : decode cX29_order 13 = .ok (.lcmp, 1) := dc_148 (by decide +kernel)
theorem dX29_order_14 : decode cX29_order 14 = .ok (.ifCond .ne 9, 3) := dc_154 (a := 0) (b := 9) (v := 9) (by decide +kernel)
theorem dX29_order_17 : decode cX29_order 17 = .ok (.iinc 1 (-1), 3) := dc_132 (a := 1) (b := 255) (v := -1) (by decide +kernel)
theorem dX29_order_20 : decode cX29_order 20 = .ok (.goto (-18), 3) := dc_167 (a := 255) (b := 238) (v := -18) (by decide +kernel)
theorem dX29_order_23 : decode cX29_order 23 = .ok (.iload_n 1, 1) := dc_27 (by decide +kernel)
theorem dX29_order_24 : decode cX29_order 24 = .ok (.ireturn, 1) := dc_172 (by decide +kernel)
def fX29_order_b23 (N : Nat) (l1 : Int32) (h : eH) : Option (Int32 × eH) :=
  some (l1, h)
theorem pX29_order_b23 {w : eW} {d : Nat} (hd : 0 ≤ d) {N : Nat} {l1 : Int32} {h : eH} {q} (hf : fX29_order_b23 N l1 h = some q) : wp w d YX29_order 23 [none, some (.int l1)] [] h (e_is (e_rn c_I q)) := by
  unfold fX29_order_b23 at hf
  refine w_iload_n dX29_order_23 rfl rfl ?_
  cases hf
  exact w_iret dX29_order_24 rfl rfl rfl
def fX29_order_b2 (N : Nat) : Nat → Nat → Int32 → eH → Option (Int32 × eH)
  | 0, _, _, _ => none
  | n + 1, l0, l1, h =>
    if l1 ≤ 0 then
      fX29_order_b23 N l1 h
    else
      (g_A 28 h l0 0).bind fun a2 =>
      (r_J h a2 l1).bind fun x4 =>
      if ¬ (lg_cmp x4 (0 : Int64)) = 0 then
        fX29_order_b23 N l1 h
      else
        fX29_order_b2 N n l0 (l1 + (-1 : Int32)) h
theorem pX29_order_b2 {w : eW} {d : Nat} (hd : 0 ≤ d) {N : Nat} : ∀ (n : Nat) l0 l1 h q, fX29_order_b2 N n l0 l1 h = some q → wp w d YX29_order 2 [some (.ref l0), some (.int l1)] [] h (e_is (e_rn c_I q)) := by
  intro n
  induction n with
  | zero => intro l0 l1 h q hf; simp [fX29_order_b2] at hf
  | succ n ih =>
    intro l0 l1 h q hf
    rw [fX29_order_b2] at hf
    refine w_iload_n dX29_order_2 rfl rfl ?_
    refine w_if_le 23 dX29_order_3 (by decide) (fun c1 => ?_) (fun c1 => ?_)
    · replace hf := (if_pos (show l1 ≤ 0 from c1)).symm.trans hf
      exact (pX29_order_b23 hd hf).to ⟨rfl, trivial⟩
    · replace hf := (if_neg (show ¬ (l1 ≤ 0) from c1)).symm.trans hf
      refine w_aload_n dX29_order_6 rfl rfl ?_
      obtain ⟨a2, b3, hf⟩ := Option.bind_eq_some_iff.mp hf
      refine GX29_9 b3 dX29_order_7 rfl ?_
      refine w_iload_n dX29_order_10 rfl rfl ?_
      obtain ⟨x4, b5, hf⟩ := Option.bind_eq_some_iff.mp hf
      refine x_rJ b5 dX29_order_11 ?_
      refine w_lconst dX29_order_12 (v := 0) (by decide) ?_
      refine w_lcmp dX29_order_13 ?_
      refine w_if_ne 23 dX29_order_14 (by decide) (fun c6 => ?_) (fun c6 => ?_)
      · replace hf := (if_pos (show ¬ (lg_cmp x4 (0 : Int64)) = 0 from c6)).symm.trans hf
        exact (pX29_order_b23 hd hf).to ⟨rfl, trivial⟩
      · replace hf := (if_neg (show ¬ (¬ (lg_cmp x4 (0 : Int64)) = 0) from (fun z => z c6))).symm.trans hf
        refine w_iinc dX29_order_17 (v := (l1 + (-1 : Int32))) rfl rfl (by decide) (ls' := [some (.ref l0), some (.int (l1 + (-1 : Int32)))]) rfl ?_
        refine w_goto 2 dX29_order_20 (by decide) ?_
        exact (ih _ _ _ _ hf).to ⟨rfl, rfl, trivial⟩
def fX29_order (N : Nat) (this : Nat) (h : eH) : Option (Int32 × eH) :=
  fX29_order_b2 N N this (3 : Int32) h
theorem pX29_order {w : eW} {d : Nat} (hd : 0 ≤ d) {N : Nat} {this : Nat} {h : eH} {q} (hf : fX29_order N this h = some q) : wm w d YX29_order [.ref this] h (e_is (e_rn c_I q)) := by
  show wp w d YX29_order 0 [some (.ref this), none] [] h _
  unfold fX29_order at hf
  refine w_iconst dX29_order_0 (v := 3) (by decide) ?_
  refine w_istore_n dX29_order_1 rfl (by decide) (ls' := [some (.ref this), some (.int (3 : Int32))]) rfl ?_
  exact (pX29_order_b2 hd N _ _ _ _ hf).to ⟨rfl, rfl, trivial⟩
abbrev cX29_badnessOf : ByteArray := prog_30_method_7_code
def yX29_badnessOf : MethodName := ⟨RX29, "badnessOf", "(JJ)I"⟩
def YX29_badnessOf : eY := (yX29_badnessOf, cX29_badnessOf, 6, (Option.some FieldType.int), [])
theorem mX29_badnessOf : e_ms YX29_badnessOf 2 := ⟨q3270, q455, q3271, by decide, by decide +kernel, (e_sig (by decide +kernel))⟩
theorem dX29_badnessOf_0 : decode cX29_badnessOf 0 = .ok (.lload_n 2, 1) := dc_32 (by decide +kernel)
theorem dX29_badnessOf_1 : decode cX29_badnessOf 1 = .ok (.lconst 0, 1) := dc_9 (by decide +kernel)
theorem dX29_badnessOf_2 : decode cX29_badnessOf 2 = .ok (.lcmp, 1) := dc_148 (by decide +kernel)
theorem dX29_badnessOf_3 : decode cX29_badnessOf 3 = .ok (.ifCond .ne 7, 3) := dc_154 (a := 0) (b := 7) (v := 7) (by decide +kernel)
theorem dX29_badnessOf_6 : decode cX29_badnessOf 6 = .ok (.sipush 10000, 3) := dc_17 (a := 39) (b := 16) (v := 10000) (by decide +kernel)
theorem dX29_badnessOf_9 : decode cX29_badnessOf 9 = .ok (.ireturn, 1) := dc_172 (by decide +kernel)
theorem dX29_badnessOf_10 : decode cX29_badnessOf 10 = .ok (.lload_n 0, 1) := dc_30 (by decide +kernel)
theorem dX29_badnessOf_11 : decode cX29_badnessOf 11 = .ok (.ldc2_w 48, 3) := dc_20 (a := 0) (b := 48) (n := 48) (by decide +kernel)
theorem dX29_badnessOf_14 : decode cX29_badnessOf 14 = .ok (.lcmp, 1) := dc_148 (by decide +kernel)
theorem dX29_badnessOf_15 : decode cX29_badnessOf 15 = .ok (.ifCond .gt 13, 3) := dc_157 (a := 0) (b := 13) (v := 13) (by decide +kernel)
theorem dX29_badnessOf_18 : decode cX29_badnessOf 18 = .ok (.ldc2_w 50, 3) := dc_20 (a := 0) (b := 50) (n := 50) (by decide +kernel)
theorem dX29_badnessOf_21 : decode cX29_badnessOf 21 = .ok (.lload_n 0, 1) := dc_30 (by decide +kernel)
theorem dX29_badnessOf_22 : decode cX29_badnessOf 22 = .ok (.lmul, 1) := dc_105 (by decide +kernel)
theorem dX29_badnessOf_23 : decode cX29_badnessOf 23 = .ok (.lload_n 2, 1) := dc_32 (by decide +kernel)
theorem dX29_badnessOf_24 : decode cX29_badnessOf 24 = .ok (.ldiv, 1) := dc_109 (by decide +kernel)
theorem dX29_badnessOf_25 : decode cX29_badnessOf 25 = .ok (.goto 22, 3) := dc_167 (a := 0) (b := 22) (v := 22) (by decide +kernel)
theorem dX29_badnessOf_28 : decode cX29_badnessOf 28 = .ok (.lload_n 2, 1) := dc_32 (by decide +kernel)
theorem dX29_badnessOf_29 : decode cX29_badnessOf 29 = .ok (.ldc2_w 52, 3) := dc_20 (a := 0) (b := 52) (n := 52) (by decide +kernel)
theorem dX29_badnessOf_32 : decode cX29_badnessOf 32 = .ok (.lcmp, 1) := dc_148 (by decide +kernel)
theorem dX29_badnessOf_33 : decode cX29_badnessOf 33 = .ok (.ifCond .lt 13, 3) := dc_155 (a := 0) (b := 13) (v := 13) (by decide +kernel)
theorem dX29_badnessOf_36 : decode cX29_badnessOf 36 = .ok (.lload_n 0, 1) := dc_30 (by decide +kernel)
theorem dX29_badnessOf_37 : decode cX29_badnessOf 37 = .ok (.lload_n 2, 1) := dc_32 (by decide +kernel)
theorem dX29_badnessOf_38 : decode cX29_badnessOf 38 = .ok (.ldc2_w 50, 3) := dc_20 (a := 0) (b := 50) (n := 50) (by decide +kernel)
theorem dX29_badnessOf_41 : decode cX29_badnessOf 41 = .ok (.ldiv, 1) := dc_109 (by decide +kernel)
theorem dX29_badnessOf_42 : decode cX29_badnessOf 42 = .ok (.ldiv, 1) := dc_109 (by decide +kernel)
theorem dX29_badnessOf_43 : decode cX29_badnessOf 43 = .ok (.goto 4, 3) := dc_167 (a := 0) (b := 4) (v := 4) (by decide +kernel)
theorem dX29_badnessOf_46 : decode cX29_badnessOf 46 = .ok (.lload_n 0, 1) := dc_30 (by decide +kernel)
theorem dX29_badnessOf_47 : decode cX29_badnessOf 47 = .ok (.lstore 4, 2) := dc_55 (a := 4) (by decide +kernel)
theorem dX29_badnessOf_49 : decode cX29_badnessOf 49 = .ok (.lload 4, 2) := dc_22 (a := 4) (by decide +kernel)
theorem dX29_badnessOf_51 : decode cX29_badnessOf 51 = .ok (.ldc2_w 54, 3) := dc_20 (a := 0) (b := 54) (n := 54) (by decide +kernel)
theorem dX29_badnessOf_54 : decode cX29_badnessOf 54 = .ok (.lcmp, 1) := dc_148 (by decide +kernel)
theorem dX29_badnessOf_55 : decode cX29_badnessOf 55 = .ok (.ifCond .le 9, 3) := dc_158 (a := 0) (b := 9) (v := 9) (by decide +kernel)
theorem dX29_badnessOf_58 : decode cX29_badnessOf 58 = .ok (.sipush 10000, 3) := dc_17 (a := 39) (b := 16) (v := 10000) (by decide +kernel)
theorem dX29_badnessOf_61 : decode cX29_badnessOf 61 = .ok (.goto 20, 3) := dc_167 (a := 0) (b := 20) (v := 20) (by decide +kernel)
theorem dX29_badnessOf_64 : decode cX29_badnessOf 64 = .ok (.lload 4, 2) := dc_22 (a := 4) (by decide +kernel)
theorem dX29_badnessOf_66 : decode cX29_badnessOf 66 = .ok (.lload 4, 2) := dc_22 (a := 4) (by decide +kernel)
theorem dX29_badnessOf_68 : decode cX29_badnessOf 68 = .ok (.lmul, 1) := dc_105 (by decide +kernel)
theorem dX29_badnessOf_69 : decode cX29_badnessOf 69 = .ok (.lload 4, 2) := dc_22 (a := 4) (by decide +kernel)
theorem dX29_badnessOf_71 : decode cX29_badnessOf 71 = .ok (.lmul, 1) := dc_105 (by decide +kernel)
theorem dX29_badnessOf_72 : decode cX29_badnessOf 72 = .ok (.ldc2_w 56, 3) := dc_20 (a := 0) (b := 56) (n := 56) (by decide +kernel)
theorem dX29_badnessOf_75 : decode cX29_badnessOf 75 = .ok (.ladd, 1) := dc_97 (by decide +kernel)
theorem dX29_badnessOf_76 : decode cX29_badnessOf 76 = .ok (.ldc2_w 58, 3) := dc_20 (a := 0) (b := 58) (n := 58) (by decide +kernel)
theorem dX29_badnessOf_79 : decode cX29_badnessOf 79 = .ok (.ldiv, 1) := dc_109 (by decide +kernel)
theorem dX29_badnessOf_80 : decode cX29_badnessOf 80 = .ok (.l2i, 1) := dc_136 (by decide +kernel)
theorem dX29_badnessOf_81 : decode cX29_badnessOf 81 = .ok (.ireturn, 1) := dc_172 (by decide +kernel)
def fX29_badnessOf_b81 (s0 : Int32) (h : eH) : Option (Int32 × eH) :=
  some (s0, h)
theorem pX29_badnessOf_b81 {w : eW} {d : Nat} (hd : 0 ≤ d) {s0 : Int32} {h : eH} {q} (hf : fX29_badnessOf_b81 s0 h = some q) : wp w d YX29_badnessOf 81 [none, none, none, none, none, none] [.int s0] h (e_is (e_rn c_I q)) := by
  unfold fX29_badnessOf_b81 at hf
  cases hf
  exact w_iret dX29_badnessOf_81 rfl rfl rfl
def fX29_badnessOf_b47 (s0 : Int64) (h : eH) : Option (Int32 × eH) :=
  if (lg_cmp s0 (1290 : Int64)) ≤ 0 then
    fX29_badnessOf_b81 (((((s0 * s0) * s0) + (131072 : Int64)) / (262144 : Int64))).toInt32 h
  else
    fX29_badnessOf_b81 (10000 : Int32) h
theorem pX29_badnessOf_b47 {w : eW} {d : Nat} (hd : 0 ≤ d) {s0 : Int64} {h : eH} {q} (hf : fX29_badnessOf_b47 s0 h = some q) : wp w d YX29_badnessOf 47 [none, none, none, none, none, none] [.long s0] h (e_is (e_rn c_I q)) := by
  unfold fX29_badnessOf_b47 at hf
  refine w_lstore dX29_badnessOf_47 (by decide) (ls' := [none, none, none, none, some (.long s0), none]) rfl ?_
  refine w_lload dX29_badnessOf_49 rfl ?_
  refine w_ldc2 dX29_badnessOf_51 q3275 ?_
  refine w_lcmp dX29_badnessOf_54 ?_
  refine w_if_le 64 dX29_badnessOf_55 (by decide) (fun c1 => ?_) (fun c1 => ?_)
  · replace hf := (if_pos (show (lg_cmp s0 (1290 : Int64)) ≤ 0 from c1)).symm.trans hf
    refine w_lload dX29_badnessOf_64 rfl ?_
    refine w_lload dX29_badnessOf_66 rfl ?_
    refine w_lmul dX29_badnessOf_68 ?_
    refine w_lload dX29_badnessOf_69 rfl ?_
    refine w_lmul dX29_badnessOf_71 ?_
    refine w_ldc2 dX29_badnessOf_72 q3276 ?_
    refine w_ladd dX29_badnessOf_75 ?_
    refine w_ldc2 dX29_badnessOf_76 q3277 ?_
    refine w_ldiv dX29_badnessOf_79 (by decide) ?_
    refine w_l2i dX29_badnessOf_80 ?_
    exact (pX29_badnessOf_b81 hd hf).to trivial
  · replace hf := (if_neg (show ¬ ((lg_cmp s0 (1290 : Int64)) ≤ 0) from c1)).symm.trans hf
    refine w_sipush dX29_badnessOf_58 (v := 10000) (by decide) ?_
    refine w_goto 81 dX29_badnessOf_61 (by decide) ?_
    exact (pX29_badnessOf_b81 hd hf).to trivial
def fX29_badnessOf (p0 : Int64) (p1 : Int64) (h : eH) : Option (Int32 × eH) :=
  if ¬ (lg_cmp p1 (0 : Int64)) = 0 then
    if 0 < (lg_cmp p0 (7230584 : Int64)) then
      if (lg_cmp p1 (1663497 : Int64)) < 0 then
        fX29_badnessOf_b47 p0 h
      else
        if (p1 / (297 : Int64)) = 0 then none else
        fX29_badnessOf_b47 (p0 / (p1 / (297 : Int64))) h
    else
      if p1 = 0 then none else
      fX29_badnessOf_b47 (((297 : Int64) * p0) / p1) h
  else
    some ((10000 : Int32), h)
theorem pX29_badnessOf {w : eW} {d : Nat} (hd : 0 ≤ d) {p0 : Int64} {p1 : Int64} {h : eH} {q} (hf : fX29_badnessOf p0 p1 h = some q) : wm w d YX29_badnessOf [.long p0, .long p1] h (e_is (e_rn c_I q)) := by
  show wp w d YX29_badnessOf 0 [some (.long p0), none, some (.long p1), none, none, none] [] h _
  unfold fX29_badnessOf at hf
  refine w_lload_n dX29_badnessOf_0 rfl rfl ?_
  refine w_lconst dX29_badnessOf_1 (v := 0) (by decide) ?_
  refine w_lcmp dX29_badnessOf_2 ?_
  refine w_if_ne 10 dX29_badnessOf_3 (by decide) (fun c1 => ?_) (fun c1 => ?_)
  · replace hf := (if_pos (show ¬ (lg_cmp p1 (0 : Int64)) = 0 from c1)).symm.trans hf
    refine w_lload_n dX29_badnessOf_10 rfl rfl ?_
    refine w_ldc2 dX29_badnessOf_11 q3272 ?_
    refine w_lcmp dX29_badnessOf_14 ?_
    refine w_if_gt 28 dX29_badnessOf_15 (by decide) (fun c2 => ?_) (fun c2 => ?_)
    · replace hf := (if_pos (show 0 < (lg_cmp p0 (7230584 : Int64)) from c2)).symm.trans hf
      refine w_lload_n dX29_badnessOf_28 rfl rfl ?_
      refine w_ldc2 dX29_badnessOf_29 q3274 ?_
      refine w_lcmp dX29_badnessOf_32 ?_
      refine w_if_lt 46 dX29_badnessOf_33 (by decide) (fun c3 => ?_) (fun c3 => ?_)
      · replace hf := (if_pos (show (lg_cmp p1 (1663497 : Int64)) < 0 from c3)).symm.trans hf
        refine w_lload_n dX29_badnessOf_46 rfl rfl ?_
        exact (pX29_badnessOf_b47 hd hf).to trivial
      · replace hf := (if_neg (show ¬ ((lg_cmp p1 (1663497 : Int64)) < 0) from c3)).symm.trans hf
        refine w_lload_n dX29_badnessOf_36 rfl rfl ?_
        refine w_lload_n dX29_badnessOf_37 rfl rfl ?_
        refine w_ldc2 dX29_badnessOf_38 q3273 ?_
        refine w_ldiv dX29_badnessOf_41 (by decide) ?_
        by_cases c4 : (p1 / (297 : Int64)) = 0
        · exact absurd ((if_pos c4).symm.trans hf) (by simp)
        replace hf := (if_neg c4).symm.trans hf
        refine w_ldiv dX29_badnessOf_42 c4 ?_
        refine w_goto 47 dX29_badnessOf_43 (by decide) ?_
        exact (pX29_badnessOf_b47 hd hf).to trivial
    · replace hf := (if_neg (show ¬ (0 < (lg_cmp p0 (7230584 : Int64))) from c2)).symm.trans hf
      refine w_ldc2 dX29_badnessOf_18 q3273 ?_
      refine w_lload_n dX29_badnessOf_21 rfl rfl ?_
      refine w_lmul dX29_badnessOf_22 ?_
      refine w_lload_n dX29_badnessOf_23 rfl rfl ?_
      by_cases c5 : p1 = 0
      · exact absurd ((if_pos c5).symm.trans hf) (by simp)
      replace hf := (if_neg c5).symm.trans hf
      refine w_ldiv dX29_badnessOf_24 c5 ?_
      refine w_goto 47 dX29_badnessOf_25 (by decide) ?_
      exact (pX29_badnessOf_b47 hd hf).to trivial
  · replace hf := (if_neg (show ¬ (¬ (lg_cmp p1 (0 : Int64)) = 0) from (fun z => z c1))).symm.trans hf
    refine w_sipush dX29_badnessOf_6 (v := 10000) (by decide) ?_
    cases hf
    exact w_iret dX29_badnessOf_9 rfl rfl rfl
abbrev cX29_badness : ByteArray := prog_30_method_8_code
def yX29_badness : MethodName := ⟨RX29, "badness", "(J)I"⟩
def YX29_badness : eY := (yX29_badness, cX29_badness, 5, (Option.some FieldType.int), [])
theorem mX29_badness : e_mv YX29_badness RX29 1 := ⟨q3262, q3263, q3264, by decide, by decide +kernel, (e_sig (by decide +kernel))⟩
theorem dX29_badness_0 : decode cX29_badness 0 = .ok (.lload_n 1, 1) := dc_31 (by decide +kernel)
theorem dX29_badness_1 : decode cX29_badness 1 = .ok (.aload_n 0, 1) := dc_42 (by decide +kernel)
theorem dX29_badness_2 : decode cX29_badness 2 = .ok (.getfield 19, 3) := dc_180 (a := 0) (b := 19) (n := 19) (by decide +kernel)
theorem dX29_badness_5 : decode cX29_badness 5 = .ok (.lsub, 1) := dc_101 (by decide +kernel)
theorem dX29_badness_6 : decode cX29_badness 6 = .ok (.lstore_n 3, 1) := dc_66 (by decide +kernel)
theorem dX29_badness_7 : decode cX29_badness 7 = .ok (.lload_n 3, 1) := dc_33 (by decide +kernel)
theorem dX29_badness_8 : decode cX29_badness 8 = .ok (.lconst 0, 1) := dc_9 (by decide +kernel)
theorem dX29_badness_9 : decode cX29_badness 9 = .ok (.lcmp, 1) := dc_148 (by decide +kernel)
theorem dX29_badness_10 : decode cX29_badness 10 = .ok (.ifCond .ne 5, 3) := dc_154 (a := 0) (b := 5) (v := 5) (by decide +kernel)
theorem dX29_badness_13 : decode cX29_badness 13 = .ok (.iconst 0, 1) := dc_3 (by decide +kernel)
theorem dX29_badness_14 : decode cX29_badness 14 = .ok (.ireturn, 1) := dc_172 (by decide +kernel)
theorem dX29_badness_15 : decode cX29_badness 15 = .ok (.lload_n 3, 1) := dc_33 (by decide +kernel)
theorem dX29_badness_16 : decode cX29_badness 16 = .ok (.lconst 0, 1) := dc_9 (by decide +kernel)
theorem dX29_badness_17 : decode cX29_badness 17 = .ok (.lcmp, 1) := dc_148 (by decide +kernel)
theorem dX29_badness_18 : decode cX29_badness 18 = .ok (.ifCond .le 25, 3) := dc_158 (a := 0) (b := 25) (v := 25) (by decide +kernel)
theorem dX29_badness_21 : decode cX29_badness 21 = .ok (.aload_n 0, 1) := dc_42 (by decide +kernel)
theorem dX29_badness_22 : decode cX29_badness 22 = .ok (.invokevirtual 60, 3) := dc_182 (a := 0) (b := 60) (n := 60) (by decide +kernel)
theorem dX29_badness_25 : decode cX29_badness 25 = .ok (.ifCond .le 7, 3) := dc_158 (a := 0) (b := 7) (v := 7) (by decide +kernel)
theorem dX29_badness_28 : decode cX29_badness 28 = .ok (.iconst 0, 1) := dc_3 (by decide +kernel)
theorem dX29_badness_29 : decode cX29_badness 29 = .ok (.goto 13, 3) := dc_167 (a := 0) (b := 13) (v := 13) (by decide +kernel)
theorem dX29_badness_32 : decode cX29_badness 32 = .ok (.lload_n 3, 1) := dc_33 (by decide +kernel)
theorem dX29_badness_33 : decode cX29_badness 33 = .ok (.aload_n 0, 1) := dc_42 (by decide +kernel)
theorem dX29_badness_34 : decode cX29_badness 34 = .ok (.getfield 9, 3) := dc_180 (a := 0) (b := 9) (n := 9) (by decide +kernel)
theorem dX29_badness_37 : decode cX29_badness 37 = .ok (.iconst 0, 1) := dc_3 (by decide +kernel)
theorem dX29_badness_38 : decode cX29_badness 38 = .ok (.laload, 1) := dc_47 (by decide +kernel)
theorem dX29_badness_39 : decode cX29_badness 39 = .ok (.invokestatic 64, 3) := dc_184 (a := 0) (b := 64) (n := 64) (by decide +kernel)
theorem dX29_badness_42 : decode cX29_badness 42 = .ok (.ireturn, 1) := dc_172 (by decide +kernel)
theorem dX29_badness_43 : decode cX29_badness 43 = .ok (.lload_n 3, 1) := dc_33 (by decide +kernel)
theorem dX29_badness_44 : decode cX29_badness 44 = .ok (.lneg, 1) := dc_117 (by decide +kernel)
theorem dX29_badness_45 : decode cX29_badness 45 = .ok (.aload_n 0, 1) := dc_42 (by decide +kernel)
theorem dX29_badness_46 : decode cX29_badness 46 = .ok (.getfield 15, 3) := dc_180 (a := 0) (b := 15) (n := 15) (by decide +kernel)
theorem dX29_badness_49 : decode cX29_badness 49 = .ok (.lcmp, 1) := dc_148 (by decide +kernel)
theorem dX29_badness_50 : decode cX29_badness 50 = .ok (.ifCond .le 8, 3) := dc_158 (a := 0) (b := 8) (v := 8) (by decide +kernel)
theorem dX29_badness_53 : decode cX29_badness 53 = .ok (.ldc 68, 2) := dc_18 (a := 68) (by decide +kernel)
theorem dX29_badness_55 : decode cX29_badness 55 = .ok (.goto 12, 3) := dc_167 (a := 0) (b := 12) (v := 12) (by decide +kernel)
theorem dX29_badness_58 : decode cX29_badness 58 = .ok (.lload_n 3, 1) := dc_33 (by decide +kernel)
theorem dX29_badness_59 : decode cX29_badness 59 = .ok (.lneg, 1) := dc_117 (by decide +kernel)
theorem dX29_badness_60 : decode cX29_badness 60 = .ok (.aload_n 0, 1) := dc_42 (by decide +kernel)
theorem dX29_badness_61 : decode cX29_badness 61 = .ok (.getfield 15, 3) := dc_180 (a := 0) (b := 15) (n := 15) (by decide +kernel)
theorem dX29_badness_64 : decode cX29_badness 64 = .ok (.invokestatic 64, 3) := dc_184 (a := 0) (b := 64) (n := 64) (by decide +kernel)
theorem dX29_badness_67 : decode cX29_badness 67 = .ok (.ireturn, 1) := dc_172 (by decide +kernel)
def fX29_badness_b42 (N : Nat) (s0 : Int32) (h : eH) : Option (Int32 × eH) :=
  some (s0, h)
theorem pX29_badness_b42 {w : eW} {d : Nat} (hd : 1 ≤ d + 1) {N : Nat} {s0 : Int32} {h : eH} {q} (hf : fX29_badness_b42 N s0 h = some q) : wp w (d + 1) YX29_badness 42 [none, none, none, none, none] [.int s0] h (e_is (e_rn c_I q)) := by
  unfold fX29_badness_b42 at hf
  cases hf
  exact w_iret dX29_badness_42 rfl rfl rfl
def fX29_badness_b67 (N : Nat) (s0 : Int32) (h : eH) : Option (Int32 × eH) :=
  some (s0, h)
theorem pX29_badness_b67 {w : eW} {d : Nat} (hd : 1 ≤ d + 1) {N : Nat} {s0 : Int32} {h : eH} {q} (hf : fX29_badness_b67 N s0 h = some q) : wp w (d + 1) YX29_badness 67 [none, none, none, none, none] [.int s0] h (e_is (e_rn c_I q)) := by
  unfold fX29_badness_b67 at hf
  cases hf
  exact w_iret dX29_badness_67 rfl rfl rfl
def fX29_badness (N : Nat) (this : Nat) (p0 : Int64) (h : eH) : Option (Int32 × eH) :=
  (g_J 28 h this 2).bind fun x1 =>
  if ¬ (lg_cmp (p0 - x1) (0 : Int64)) = 0 then
    if (lg_cmp (p0 - x1) (0 : Int64)) ≤ 0 then
      (g_J 28 h this 1).bind fun x5 =>
      if (lg_cmp (-(p0 - x1)) x5) ≤ 0 then
        (g_J 28 h this 1).bind fun x8 =>
        (fX29_badnessOf (-(p0 - x1)) x8 h).bind fun q10 =>
        fX29_badness_b67 N q10.1 q10.2
      else
        fX29_badness_b67 N (1073741823 : Int32) h
    else
      (k_ok 28 h this).bind fun _ =>
      (fX29_order N this h).bind fun q12 =>
      if q12.1 ≤ 0 then
        (g_A 28 q12.2 this 0).bind fun a14 =>
        (r_J q12.2 a14 (0 : Int32)).bind fun x16 =>
        (fX29_badnessOf (p0 - x1) x16 q12.2).bind fun q18 =>
        fX29_badness_b42 N q18.1 q18.2
      else
        fX29_badness_b42 N (0 : Int32) q12.2
  else
    some ((0 : Int32), h)
theorem pX29_badness {w : eW} {d : Nat} (hd : 1 ≤ d) {N : Nat} {this : Nat} {p0 : Int64} {h : eH} {q} (hf : fX29_badness N this p0 h = some q) : wm w d YX29_badness [.ref this, .long p0] h (e_is (e_rn c_I q)) := by
  obtain ⟨d, rfl⟩ : ∃ e, d = e + 1 := ⟨d - 1, by omega⟩
  show wp w (d + 1) YX29_badness 0 [some (.ref this), some (.long p0), none, none, none] [] h _
  unfold fX29_badness at hf
  refine w_lload_n dX29_badness_0 rfl rfl ?_
  refine w_aload_n dX29_badness_1 rfl rfl ?_
  obtain ⟨x1, b2, hf⟩ := Option.bind_eq_some_iff.mp hf
  refine GX29_19 b2 dX29_badness_2 rfl ?_
  refine w_lsub dX29_badness_5 ?_
  refine w_lstore_n dX29_badness_6 rfl (by decide) (ls' := [some (.ref this), some (.long p0), none, some (.long (p0 - x1)), none]) rfl ?_
  refine w_lload_n dX29_badness_7 rfl rfl ?_
  refine w_lconst dX29_badness_8 (v := 0) (by decide) ?_
  refine w_lcmp dX29_badness_9 ?_
  refine w_if_ne 15 dX29_badness_10 (by decide) (fun c3 => ?_) (fun c3 => ?_)
  · replace hf := (if_pos (show ¬ (lg_cmp (p0 - x1) (0 : Int64)) = 0 from c3)).symm.trans hf
    refine w_lload_n dX29_badness_15 rfl rfl ?_
    refine w_lconst dX29_badness_16 (v := 0) (by decide) ?_
    refine w_lcmp dX29_badness_17 ?_
    refine w_if_le 43 dX29_badness_18 (by decide) (fun c4 => ?_) (fun c4 => ?_)
    · replace hf := (if_pos (show (lg_cmp (p0 - x1) (0 : Int64)) ≤ 0 from c4)).symm.trans hf
      refine w_lload_n dX29_badness_43 rfl rfl ?_
      refine w_lneg dX29_badness_44 ?_
      refine w_aload_n dX29_badness_45 rfl rfl ?_
      obtain ⟨x5, b6, hf⟩ := Option.bind_eq_some_iff.mp hf
      refine GX29_15 b6 dX29_badness_46 rfl ?_
      refine w_lcmp dX29_badness_49 ?_
      refine w_if_le 58 dX29_badness_50 (by decide) (fun c7 => ?_) (fun c7 => ?_)
      · replace hf := (if_pos (show (lg_cmp (-(p0 - x1)) x5) ≤ 0 from c7)).symm.trans hf
        refine w_lload_n dX29_badness_58 rfl rfl ?_
        refine w_lneg dX29_badness_59 ?_
        refine w_aload_n dX29_badness_60 rfl rfl ?_
        obtain ⟨x8, b9, hf⟩ := Option.bind_eq_some_iff.mp hf
        refine GX29_15 b9 dX29_badness_61 rfl ?_
        refine x_cnI hf (e_stS (Yc := YX29_badnessOf) (av := [.long (-(p0 - x1)), .long x8]) (st := []) dX29_badness_64 q3269 mX29_badnessOf) mX29_badnessOf.2.2.1 mX29_badnessOf.2.2.2.2.1 (Nat.le_of_ble_eq_true rfl) (Nat.le_of_ble_eq_true rfl) (fun q hq => pX29_badnessOf (by omega) hq) (fun q10 hf => ?_)
        exact (pX29_badness_b67 hd hf).to trivial
      · replace hf := (if_neg (show ¬ ((lg_cmp (-(p0 - x1)) x5) ≤ 0) from c7)).symm.trans hf
        refine w_ldc dX29_badness_53 q3278 ?_
        refine w_goto 67 dX29_badness_55 (by decide) ?_
        exact (pX29_badness_b67 hd hf).to trivial
    · replace hf := (if_neg (show ¬ ((lg_cmp (p0 - x1) (0 : Int64)) ≤ 0) from c4)).symm.trans hf
      refine w_aload_n dX29_badness_21 rfl rfl ?_
      obtain ⟨_, b11, hf⟩ := Option.bind_eq_some_iff.mp hf
      refine x_cnI hf (e_stV (Yc := YX29_order) (ci := 28) (av := []) (st := []) dX29_badness_22 q3265 mX29_order rfl (k_ok_some b11).1 (k_ok_some b11).2) mX29_order.2.2.1 mX29_order.2.2.2.2.1 (Nat.le_of_ble_eq_true rfl) (Nat.le_of_ble_eq_true rfl) (fun q hq => pX29_order (by omega) hq) (fun q12 hf => ?_)
      refine w_if_le 32 dX29_badness_25 (by decide) (fun c13 => ?_) (fun c13 => ?_)
      · replace hf := (if_pos (show q12.1 ≤ 0 from c13)).symm.trans hf
        refine w_lload_n dX29_badness_32 rfl rfl ?_
        refine w_aload_n dX29_badness_33 rfl rfl ?_
        obtain ⟨a14, b15, hf⟩ := Option.bind_eq_some_iff.mp hf
        refine GX29_9 b15 dX29_badness_34 rfl ?_
        refine w_iconst dX29_badness_37 (v := 0) (by decide) ?_
        obtain ⟨x16, b17, hf⟩ := Option.bind_eq_some_iff.mp hf
        refine x_rJ b17 dX29_badness_38 ?_
        refine x_cnI hf (e_stS (Yc := YX29_badnessOf) (av := [.long (p0 - x1), .long x16]) (st := []) dX29_badness_39 q3269 mX29_badnessOf) mX29_badnessOf.2.2.1 mX29_badnessOf.2.2.2.2.1 (Nat.le_of_ble_eq_true rfl) (Nat.le_of_ble_eq_true rfl) (fun q hq => pX29_badnessOf (by omega) hq) (fun q18 hf => ?_)
        exact (pX29_badness_b42 hd hf).to trivial
      · replace hf := (if_neg (show ¬ (q12.1 ≤ 0) from c13)).symm.trans hf
        refine w_iconst dX29_badness_28 (v := 0) (by decide) ?_
        refine w_goto 42 dX29_badness_29 (by decide) ?_
        exact (pX29_badness_b42 hd hf).to trivial
  · replace hf := (if_neg (show ¬ (¬ (lg_cmp (p0 - x1) (0 : Int64)) = 0) from (fun z => z c3))).symm.trans hf
    refine w_iconst dX29_badness_13 (v := 0) (by decide) ?_
    cases hf
    exact w_iret dX29_badness_14 rfl rfl rfl
abbrev cX28_cost : ByteArray := prog_21_method_4_code
def yX28_cost : MethodName := ⟨RX28, "cost", "(I)I"⟩
def YX28_cost : eY := (yX28_cost, cX28_cost, 3, (Option.some FieldType.int), [])
theorem mX28_cost : e_mv YX28_cost RX28 1 := ⟨q3259, qs124, q3260, by decide, by decide +kernel, (e_sig (by decide +kernel))⟩
theorem dX28_cost_0 : decode cX28_cost 0 = .ok (.aload_n 0, 1) := dc_42 (by decide +kernel)
theorem dX28_cost_1 : decode cX28_cost 1 = .ok (.getfield 12, 3) := dc_180 (a := 0) (b := 12) (n := 12) (by decide +kernel)
theorem dX28_cost_4 : decode cX28_cost 4 = .ok (.aload_n 0, 1) := dc_42 (by decide +kernel)
theorem dX28_cost_5 : decode cX28_cost 5 = .ok (.getfield 24, 3) := dc_180 (a := 0) (b := 24) (n := 24) (by decide +kernel)
theorem dX28_cost_8 : decode cX28_cost 8 = .ok (.getfield 55, 3) := dc_180 (a := 0) (b := 55) (n := 55) (by decide +kernel)
theorem dX28_cost_11 : decode cX28_cost 11 = .ok (.i2l, 1) := dc_133 (by decide +kernel)
theorem dX28_cost_12 : decode cX28_cost 12 = .ok (.invokevirtual 68, 3) := dc_182 (a := 0) (b := 68) (n := 68) (by decide +kernel)
theorem dX28_cost_15 : decode cX28_cost 15 = .ok (.istore_n 2, 1) := dc_61 (by decide +kernel)
theorem dX28_cost_16 : decode cX28_cost 16 = .ok (.iload_n 2, 1) := dc_28 (by decide +kernel)
theorem dX28_cost_17 : decode cX28_cost 17 = .ok (.ldc 45, 2) := dc_18 (a := 45) (by decide +kernel)
theorem dX28_cost_19 : decode cX28_cost 19 = .ok (.if_icmp .ne 6, 3) := dc_160 (a := 0) (b := 6) (v := 6) (by decide +kernel)
theorem dX28_cost_22 : decode cX28_cost 22 = .ok (.ldc 45, 2) := dc_18 (a := 45) (by decide +kernel)
theorem dX28_cost_24 : decode cX28_cost 24 = .ok (.ireturn, 1) := dc_172 (by decide +kernel)
theorem dX28_cost_25 : decode cX28_cost 25 = .ok (.iload_n 1, 1) := dc_27 (by decide +kernel)
theorem dX28_cost_26 : decode cX28_cost 26 = .ok (.sipush (-10000), 3) := dc_17 (a := 216) (b := 240) (v := -10000) (by decide +kernel)
theorem dX28_cost_29 : decode cX28_cost 29 = .ok (.if_icmp .gt 5, 3) := dc_163 (a := 0) (b := 5) (v := 5) (by decide +kernel)
theorem dX28_cost_32 : decode cX28_cost 32 = .ok (.iload_n 1, 1) := dc_27 (by decide +kernel)
theorem dX28_cost_33 : decode cX28_cost 33 = .ok (.ireturn, 1) := dc_172 (by decide +kernel)
theorem dX28_cost_34 : decode cX28_cost 34 = .ok (.iload_n 2, 1) := dc_28 (by decide +kernel)
theorem dX28_cost_35 : decode cX28_cost 35 = .ok (.sipush 10000, 3) := dc_17 (a := 39) (b := 16) (v := 10000) (by decide +kernel)
theorem dX28_cost_38 : decode cX28_cost 38 = .ok (.if_icmp .ge 9, 3) := dc_162 (a := 0) (b := 9) (v := 9) (by decide +kernel)
theorem dX28_cost_41 : decode cX28_cost 41 = .ok (.iload_n 2, 1) := dc_28 (by decide +kernel)
theorem dX28_cost_42 : decode cX28_cost 42 = .ok (.iload_n 1, 1) := dc_27 (by decide +kernel)
theorem dX28_cost_43 : decode cX28_cost 43 = .ok (.iadd, 1) := dc_96 (by decide +kernel)
theorem dX28_cost_44 : decode cX28_cost 44 = .ok (.goto 5, 3) := dc_167 (a := 0) (b := 5) (v := 5) (by decide +kernel)
theorem dX28_cost_47 : decode cX28_cost 47 = .ok (.ldc 72, 2) := dc_18 (a := 72) (by decide +kernel)
theorem dX28_cost_49 : decode cX28_cost 49 = .ok (.ireturn, 1) := dc_172 (by decide +kernel)
theorem GX28_55 {w : eW} {d : Nat} {Y : eY} {pc : Nat} {ls : eL} {st : List Value} {h : eH} {Q : eO → eH → Prop} {a : Nat} {x : Int32} (hf : g_I 29 h a 1 = some x) (hd : decode Y.2.1 pc = .ok (.getfield 55, 3)) (hY : Y.1.cls = RX28) (kk : wp w d Y (pc + 3) ls (.int x :: st) h Q) : wp w d Y pc ls (.ref a :: st) h Q := x_gIN (ci := 29) (k := 1) hf hd rfl (by decide) (by rw [hY]; exact q1568) kk
def fX28_cost_b49 (N : Nat) (s0 : Int32) (h : eH) : Option (Int32 × eH) :=
  some (s0, h)
theorem pX28_cost_b49 {w : eW} {d : Nat} (hd : 2 ≤ d + 1) {N : Nat} {s0 : Int32} {h : eH} {q} (hf : fX28_cost_b49 N s0 h = some q) : wp w (d + 1) YX28_cost 49 [none, none, none] [.int s0] h (e_is (e_rn c_I q)) := by
  unfold fX28_cost_b49 at hf
  cases hf
  exact w_iret dX28_cost_49 rfl rfl rfl
def fX28_cost (N : Nat) (this : Nat) (p0 : Int32) (h : eH) : Option (Int32 × eH) :=
  (g_A 27 h this 1).bind fun a1 =>
  (g_A 27 h this 6).bind fun a3 =>
  (g_I 29 h a3 1).bind fun x5 =>
  (k_ok 28 h a1).bind fun _ =>
  (fX29_badness N a1 (x5).toInt64 h).bind fun q8 =>
  if ¬ q8.1 = (1073741823 : Int32) then
    if (-10000 : Int32) < p0 then
      if (10000 : Int32) ≤ q8.1 then
        fX28_cost_b49 N (100000 : Int32) q8.2
      else
        fX28_cost_b49 N (q8.1 + p0) q8.2
    else
      some (p0, q8.2)
  else
    some ((1073741823 : Int32), q8.2)
theorem pX28_cost {w : eW} {d : Nat} (hd : 2 ≤ d) {N : Nat} {this : Nat} {p0 : Int32} {h : eH} {q} (hf : fX28_cost N this p0 h = some q) : wm w d YX28_cost [.ref this, .int p0] h (e_is (e_rn c_I q)) := by
  obtain ⟨d, rfl⟩ : ∃ e, d = e + 1 := ⟨d - 1, by omega⟩
  show wp w (d + 1) YX28_cost 0 [some (.ref this), some (.int p0), none] [] h _
  unfold fX28_cost at hf
  refine w_aload_n dX28_cost_0 rfl rfl ?_
  obtain ⟨a1, b2, hf⟩ := Option.bind_eq_some_iff.mp hf
  refine GX28_12 b2 dX28_cost_1 rfl ?_
  refine w_aload_n dX28_cost_4 rfl rfl ?_
  obtain ⟨a3, b4, hf⟩ := Option.bind_eq_some_iff.mp hf
  refine GX28_24 b4 dX28_cost_5 rfl ?_
  obtain ⟨x5, b6, hf⟩ := Option.bind_eq_some_iff.mp hf
  refine GX28_55 b6 dX28_cost_8 rfl ?_
  refine w_i2l dX28_cost_11 ?_
  obtain ⟨_, b7, hf⟩ := Option.bind_eq_some_iff.mp hf
  refine x_cnI hf (e_stV (Yc := YX29_badness) (ci := 28) (av := [.long (x5).toInt64]) (st := []) dX28_cost_12 q3261 mX29_badness rfl (k_ok_some b7).1 (k_ok_some b7).2) mX29_badness.2.2.1 mX29_badness.2.2.2.2.1 (Nat.le_of_ble_eq_true rfl) (Nat.le_of_ble_eq_true rfl) (fun q hq => pX29_badness (by omega) hq) (fun q8 hf => ?_)
  refine w_istore_n dX28_cost_15 rfl (by decide) (ls' := [some (.ref this), some (.int p0), some (.int q8.1)]) rfl ?_
  refine w_iload_n dX28_cost_16 rfl rfl ?_
  refine w_ldc dX28_cost_17 q1613 ?_
  refine w_icmp_ne 25 dX28_cost_19 (by decide) (fun c9 => ?_) (fun c9 => ?_)
  · replace hf := (if_pos (show ¬ q8.1 = (1073741823 : Int32) from c9)).symm.trans hf
    refine w_iload_n dX28_cost_25 rfl rfl ?_
    refine w_sipush dX28_cost_26 (v := -10000) (by decide) ?_
    refine w_icmp_gt 34 dX28_cost_29 (by decide) (fun c10 => ?_) (fun c10 => ?_)
    · replace hf := (if_pos (show (-10000 : Int32) < p0 from c10)).symm.trans hf
      refine w_iload_n dX28_cost_34 rfl rfl ?_
      refine w_sipush dX28_cost_35 (v := 10000) (by decide) ?_
      refine w_icmp_ge 47 dX28_cost_38 (by decide) (fun c11 => ?_) (fun c11 => ?_)
      · replace hf := (if_pos (show (10000 : Int32) ≤ q8.1 from c11)).symm.trans hf
        refine w_ldc dX28_cost_47 q3279 ?_
        exact (pX28_cost_b49 hd hf).to trivial
      · replace hf := (if_neg (show ¬ ((10000 : Int32) ≤ q8.1) from c11)).symm.trans hf
        refine w_iload_n dX28_cost_41 rfl rfl ?_
        refine w_iload_n dX28_cost_42 rfl rfl ?_
        refine w_iadd dX28_cost_43 ?_
        refine w_goto 49 dX28_cost_44 (by decide) ?_
        exact (pX28_cost_b49 hd hf).to trivial
    · replace hf := (if_neg (show ¬ ((-10000 : Int32) < p0) from c10)).symm.trans hf
      refine w_iload_n dX28_cost_32 rfl rfl ?_
      cases hf
      exact w_iret dX28_cost_33 rfl rfl rfl
  · replace hf := (if_neg (show ¬ (¬ q8.1 = (1073741823 : Int32)) from (fun z => z c9))).symm.trans hf
    refine w_ldc dX28_cost_22 q1613 ?_
    cases hf
    exact w_iret dX28_cost_24 rfl rfl rfl
abbrev cX29_become : ByteArray := prog_30_method_3_code
def yX29_become : MethodName := ⟨RX29, "become", "(LTypeHouse$Sums;)V"⟩
def YX29_become : eY := (yX29_become, cX29_become, 3, none, [])
theorem mX29_become : e_mv YX29_become RX29 1 := ⟨q3281, q3282, q3283, by decide, by decide +kernel, (e_sig (by decide +kernel))⟩
theorem dX29_become_0 : decode cX29_become 0 = .ok (.iconst 0, 1) := dc_3 (by decide +kernel)
theorem dX29_become_1 : decode cX29_become 1 = .ok (.istore_n 2, 1) := dc_61 (by decide +kernel)
theorem dX29_become_2 : decode cX29_become 2 = .ok (.iload_n 2, 1) := dc_28 (by decide +kernel)
theorem dX29_become_3 : decode cX29_become 3 = .ok (.iconst 4, 1) := dc_7 (by decide +kernel)
theorem dX29_become_4 : decode cX29_become 4 = .ok (.if_icmp .ge 21, 3) := dc_162 (a := 0) (b := 21) (v := 21) (by decide +kernel)
theorem dX29_become_7 : decode cX29_become 7 = .ok (.aload_n 0, 1) := dc_42 (by decide +kernel)
theorem dX29_become_8 : decode cX29_become 8 = .ok (.getfield 9, 3) := dc_180 (a := 0) (b := 9) (n := 9) (by decide +kernel)
theorem dX29_become_11 : decode cX29_become 11 = .ok (.iload_n 2, 1) := dc_28 (by decide +kernel)
theorem dX29_become_12 : decode cX29_become 12 = .ok (.aload_n 1, 1) := dc_43 (by decide +kernel)
theorem dX29_become_13 : decode cX29_become 13 = .ok (.getfield 9, 3) := dc_180 (a := 0) (b := 9) (n := 9) (by decide +kernel)
theorem dX29_become_16 : decode cX29_become 16 = .ok (.iload_n 2, 1) := dc_28 (by decide +kernel)
theorem dX29_become_17 : decode cX29_become 17 = .ok (.laload, 1) := dc_47 (by decide +kernel)
theorem dX29_become_18 : decode cX29_become 18 = .ok (.lastore, 1) := dc_80 (by decide +kernel)
theorem dX29_become_19 : decode cX29_become 19 = .ok (.iinc 2 1, 3) := dc_132 (a := 2) (b := 1) (v := 1) (by decide +kernel)
theorem dX29_become_22 : decode cX29_become 22 = .ok (.goto (-20), 3) := dc_167 (a := 255) (b := 236) (v := -20) (by decide +kernel)
theorem dX29_become_25 : decode cX29_become 25 = .ok (.aload_n 0, 1) := dc_42 (by decide +kernel)
theorem dX29_become_26 : decode cX29_become 26 = .ok (.aload_n 1, 1) := dc_43 (by decide +kernel)
theorem dX29_become_27 : decode cX29_become 27 = .ok (.getfield 15, 3) := dc_180 (a := 0) (b := 15) (n := 15) (by decide +kernel)
theorem dX29_become_30 : decode cX29_become 30 = .ok (.putfield 15, 3) := dc_181 (a := 0) (b := 15) (n := 15) (by decide +kernel)
theorem dX29_become_33 : decode cX29_become 33 = .ok (.aload_n 0, 1) := dc_42 (by decide +kernel)
theorem dX29_become_34 : decode cX29_become 34 = .ok (.aload_n 1, 1) := dc_43 (by decide +kernel)
theorem dX29_become_35 : decode cX29_become 35 = .ok (.getfield 19, 3) := dc_180 (a := 0) (b := 19) (n := 19) (by decide +kernel)
theorem dX29_become_38 : decode cX29_become 38 = .ok (.putfield 19, 3) := dc_181 (a := 0) (b := 19) (n := 19) (by decide +kernel)
theorem dX29_become_41 : decode cX29_become 41 = .ok (.aload_n 0, 1) := dc_42 (by decide +kernel)
theorem dX29_become_42 : decode cX29_become 42 = .ok (.aload_n 1, 1) := dc_43 (by decide +kernel)
theorem dX29_become_43 : decode cX29_become 43 = .ok (.getfield 22, 3) := dc_180 (a := 0) (b := 22) (n := 22) (by decide +kernel)
theorem dX29_become_46 : decode cX29_become 46 = .ok (.putfield 22, 3) := dc_181 (a := 0) (b := 22) (n := 22) (by decide +kernel)
theorem dX29_become_49 : decode cX29_become 49 = .ok (.return_, 1) := dc_177 (by decide +kernel)
def fX29_become_b2 (N : Nat) : Nat → Nat → Nat → Int32 → eH → Option (Unit × eH)
  | 0, _, _, _, _ => none
  | n + 1, l0, l1, l2, h =>
    if (4 : Int32) ≤ l2 then
      (g_J 28 h l1 1).bind fun x2 =>
      (p_V 28 h l0 1 (.long x2)).bind fun h4 =>
      (g_J 28 h4 l1 2).bind fun x6 =>
      (p_V 28 h4 l0 2 (.long x6)).bind fun h8 =>
      (g_J 28 h8 l1 3).bind fun x10 =>
      (p_V 28 h8 l0 3 (.long x10)).bind fun h12 =>
      some ((), h12)
    else
      (g_A 28 h l0 0).bind fun a14 =>
      (g_A 28 h l1 0).bind fun a16 =>
      (r_J h a16 l2).bind fun x18 =>
      (q_V 101 h a14 l2 (.long x18)).bind fun h20 =>
      fX29_become_b2 N n l0 l1 (l2 + (1 : Int32)) h20
theorem pX29_become_b2 {w : eW} {d : Nat} (hd : 0 ≤ d) {N : Nat} : ∀ (n : Nat) l0 l1 l2 h q, fX29_become_b2 N n l0 l1 l2 h = some q → wp w d YX29_become 2 [some (.ref l0), some (.ref l1), some (.int l2)] [] h (e_is (e_rn c_V q)) := by
  intro n
  induction n with
  | zero => intro l0 l1 l2 h q hf; simp [fX29_become_b2] at hf
  | succ n ih =>
    intro l0 l1 l2 h q hf
    rw [fX29_become_b2] at hf
    refine w_iload_n dX29_become_2 rfl rfl ?_
    refine w_iconst dX29_become_3 (v := 4) (by decide) ?_
    refine w_icmp_ge 25 dX29_become_4 (by decide) (fun c1 => ?_) (fun c1 => ?_)
    · replace hf := (if_pos (show (4 : Int32) ≤ l2 from c1)).symm.trans hf
      refine w_aload_n dX29_become_25 rfl rfl ?_
      refine w_aload_n dX29_become_26 rfl rfl ?_
      obtain ⟨x2, b3, hf⟩ := Option.bind_eq_some_iff.mp hf
      refine GX29_15 b3 dX29_become_27 rfl ?_
      obtain ⟨h4, b5, hf⟩ := Option.bind_eq_some_iff.mp hf
      refine SX29_15 b5 dX29_become_30 rfl ?_
      refine w_aload_n dX29_become_33 rfl rfl ?_
      refine w_aload_n dX29_become_34 rfl rfl ?_
      obtain ⟨x6, b7, hf⟩ := Option.bind_eq_some_iff.mp hf
      refine GX29_19 b7 dX29_become_35 rfl ?_
      obtain ⟨h8, b9, hf⟩ := Option.bind_eq_some_iff.mp hf
      refine SX29_19 b9 dX29_become_38 rfl ?_
      refine w_aload_n dX29_become_41 rfl rfl ?_
      refine w_aload_n dX29_become_42 rfl rfl ?_
      obtain ⟨x10, b11, hf⟩ := Option.bind_eq_some_iff.mp hf
      refine GX29_22 b11 dX29_become_43 rfl ?_
      obtain ⟨h12, b13, hf⟩ := Option.bind_eq_some_iff.mp hf
      refine SX29_22 b13 dX29_become_46 rfl ?_
      cases hf
      exact w_vret dX29_become_49 rfl rfl
    · replace hf := (if_neg (show ¬ ((4 : Int32) ≤ l2) from c1)).symm.trans hf
      refine w_aload_n dX29_become_7 rfl rfl ?_
      obtain ⟨a14, b15, hf⟩ := Option.bind_eq_some_iff.mp hf
      refine GX29_9 b15 dX29_become_8 rfl ?_
      refine w_iload_n dX29_become_11 rfl rfl ?_
      refine w_aload_n dX29_become_12 rfl rfl ?_
      obtain ⟨a16, b17, hf⟩ := Option.bind_eq_some_iff.mp hf
      refine GX29_9 b17 dX29_become_13 rfl ?_
      refine w_iload_n dX29_become_16 rfl rfl ?_
      obtain ⟨x18, b19, hf⟩ := Option.bind_eq_some_iff.mp hf
      refine x_rJ b19 dX29_become_17 ?_
      obtain ⟨h20, b21, hf⟩ := Option.bind_eq_some_iff.mp hf
      refine x_qJ b21 dX29_become_18 ?_
      refine w_iinc dX29_become_19 (v := (l2 + (1 : Int32))) rfl rfl (by decide) (ls' := [some (.ref l0), some (.ref l1), some (.int (l2 + (1 : Int32)))]) rfl ?_
      refine w_goto 2 dX29_become_22 (by decide) ?_
      exact (ih _ _ _ _ _ hf).to ⟨rfl, rfl, rfl, trivial⟩
def fX29_become (N : Nat) (this : Nat) (p0 : Nat) (h : eH) : Option (Unit × eH) :=
  fX29_become_b2 N N this p0 (0 : Int32) h
theorem pX29_become {w : eW} {d : Nat} (hd : 0 ≤ d) {N : Nat} {this : Nat} {p0 : Nat} {h : eH} {q} (hf : fX29_become N this p0 h = some q) : wm w d YX29_become [.ref this, .ref p0] h (e_is (e_rn c_V q)) := by
  show wp w d YX29_become 0 [some (.ref this), some (.ref p0), none] [] h _
  unfold fX29_become at hf
  refine w_iconst dX29_become_0 (v := 0) (by decide) ?_
  refine w_istore_n dX29_become_1 rfl (by decide) (ls' := [some (.ref this), some (.ref p0), some (.int (0 : Int32))]) rfl ?_
  exact (pX29_become_b2 hd N _ _ _ _ _ hf).to ⟨rfl, rfl, rfl, trivial⟩
abbrev cX28_ends : ByteArray := prog_21_method_5_code
def yX28_ends : MethodName := ⟨RX28, "ends", "(II)Z"⟩
def YX28_ends : eY := (yX28_ends, cX28_ends, 4, (Option.some FieldType.boolean), [])
theorem mX28_ends : e_mv YX28_ends RX28 2 := ⟨q3255, qs123, q3256, by decide, by decide +kernel, (e_sig (by decide +kernel))⟩
theorem dX28_ends_0 : decode cX28_ends 0 = .ok (.aload_n 0, 1) := dc_42 (by decide +kernel)
theorem dX28_ends_1 : decode cX28_ends 1 = .ok (.iload_n 2, 1) := dc_28 (by decide +kernel)
theorem dX28_ends_2 : decode cX28_ends 2 = .ok (.invokevirtual 73, 3) := dc_182 (a := 0) (b := 73) (n := 73) (by decide +kernel)
theorem dX28_ends_5 : decode cX28_ends 5 = .ok (.istore_n 3, 1) := dc_62 (by decide +kernel)
theorem dX28_ends_6 : decode cX28_ends 6 = .ok (.iload_n 3, 1) := dc_29 (by decide +kernel)
theorem dX28_ends_7 : decode cX28_ends 7 = .ok (.aload_n 0, 1) := dc_42 (by decide +kernel)
theorem dX28_ends_8 : decode cX28_ends 8 = .ok (.getfield 46, 3) := dc_180 (a := 0) (b := 46) (n := 46) (by decide +kernel)
theorem dX28_ends_11 : decode cX28_ends 11 = .ok (.if_icmp .gt 24, 3) := dc_163 (a := 0) (b := 24) (v := 24) (by decide +kernel)
theorem dX28_ends_14 : decode cX28_ends 14 = .ok (.aload_n 0, 1) := dc_42 (by decide +kernel)
theorem dX28_ends_15 : decode cX28_ends 15 = .ok (.iload_n 3, 1) := dc_29 (by decide +kernel)
theorem dX28_ends_16 : decode cX28_ends 16 = .ok (.putfield 46, 3) := dc_181 (a := 0) (b := 46) (n := 46) (by decide +kernel)
theorem dX28_ends_19 : decode cX28_ends 19 = .ok (.aload_n 0, 1) := dc_42 (by decide +kernel)
theorem dX28_ends_20 : decode cX28_ends 20 = .ok (.iload_n 1, 1) := dc_27 (by decide +kernel)
theorem dX28_ends_21 : decode cX28_ends 21 = .ok (.putfield 42, 3) := dc_181 (a := 0) (b := 42) (n := 42) (by decide +kernel)
theorem dX28_ends_24 : decode cX28_ends 24 = .ok (.aload_n 0, 1) := dc_42 (by decide +kernel)
theorem dX28_ends_25 : decode cX28_ends 25 = .ok (.getfield 18, 3) := dc_180 (a := 0) (b := 18) (n := 18) (by decide +kernel)
theorem dX28_ends_28 : decode cX28_ends 28 = .ok (.aload_n 0, 1) := dc_42 (by decide +kernel)
theorem dX28_ends_29 : decode cX28_ends 29 = .ok (.getfield 12, 3) := dc_180 (a := 0) (b := 12) (n := 12) (by decide +kernel)
theorem dX28_ends_32 : decode cX28_ends 32 = .ok (.invokevirtual 77, 3) := dc_182 (a := 0) (b := 77) (n := 77) (by decide +kernel)
theorem dX28_ends_35 : decode cX28_ends 35 = .ok (.iload_n 3, 1) := dc_29 (by decide +kernel)
theorem dX28_ends_36 : decode cX28_ends 36 = .ok (.ldc 45, 2) := dc_18 (a := 45) (by decide +kernel)
theorem dX28_ends_38 : decode cX28_ends 38 = .ok (.if_icmp .eq 10, 3) := dc_159 (a := 0) (b := 10) (v := 10) (by decide +kernel)
theorem dX28_ends_41 : decode cX28_ends 41 = .ok (.iload_n 2, 1) := dc_28 (by decide +kernel)
theorem dX28_ends_42 : decode cX28_ends 42 = .ok (.sipush (-10000), 3) := dc_17 (a := 216) (b := 240) (v := -10000) (by decide +kernel)
theorem dX28_ends_45 : decode cX28_ends 45 = .ok (.if_icmp .gt 7, 3) := dc_163 (a := 0) (b := 7) (v := 7) (by decide +kernel)
theorem dX28_ends_48 : decode cX28_ends 48 = .ok (.iconst 1, 1) := dc_4 (by decide +kernel)
theorem dX28_ends_49 : decode cX28_ends 49 = .ok (.goto 4, 3) := dc_167 (a := 0) (b := 4) (v := 4) (by decide +kernel)
theorem dX28_ends_52 : decode cX28_ends 52 = .ok (.iconst 0, 1) := dc_3 (by decide +kernel)
theorem dX28_ends_53 : decode cX28_ends 53 = .ok (.ireturn, 1) := dc_172 (by decide +kernel)
theorem GX28_18 {w : eW} {d : Nat} {Y : eY} {pc : Nat} {ls : eL} {st : List Value} {h : eH} {Q : eO → eH → Prop} {a : Nat} {x : Nat} (hf : g_A 27 h a 2 = some x) (hd : decode Y.2.1 pc = .ok (.getfield 18, 3)) (hY : Y.1.cls = RX28) (kk : wp w d Y (pc + 3) ls (.ref x :: st) h Q) : wp w d Y pc ls (.ref a :: st) h Q := x_gA (ci := 27) (k := 2) hf hd rfl (by decide) (by rw [hY]; exact q1620) kk
theorem GX28_46 {w : eW} {d : Nat} {Y : eY} {pc : Nat} {ls : eL} {st : List Value} {h : eH} {Q : eO → eH → Prop} {a : Nat} {x : Int32} (hf : g_I 27 h a 9 = some x) (hd : decode Y.2.1 pc = .ok (.getfield 46, 3)) (hY : Y.1.cls = RX28) (kk : wp w d Y (pc + 3) ls (.int x :: st) h Q) : wp w d Y pc ls (.ref a :: st) h Q := x_gI (ci := 27) (k := 9) hf hd rfl (by decide) (by rw [hY]; exact q1631) kk
def fX28_ends_b53 (N : Nat) (s0 : Int32) (h : eH) : Option (Int32 × eH) :=
  z_r s0 (s0, h)
theorem pX28_ends_b53 {w : eW} {d : Nat} (hd : 3 ≤ d + 1) {N : Nat} {s0 : Int32} {h : eH} {q} (hf : fX28_ends_b53 N s0 h = some q) : wp w (d + 1) YX28_ends 53 [none, none, none, none] [.int s0] h (e_is (e_rn c_I q)) := by
  unfold fX28_ends_b53 at hf
  obtain ⟨b1, rfl⟩ := z_r_some hf
  exact w_iret dX28_ends_53 rfl b1 rfl
def fX28_ends_b48 (N : Nat)  (h : eH) : Option (Int32 × eH) :=
  fX28_ends_b53 N (1 : Int32) h
theorem pX28_ends_b48 {w : eW} {d : Nat} (hd : 3 ≤ d + 1) {N : Nat}  {h : eH} {q} (hf : fX28_ends_b48 N h = some q) : wp w (d + 1) YX28_ends 48 [none, none, none, none] [] h (e_is (e_rn c_I q)) := by
  unfold fX28_ends_b48 at hf
  refine w_iconst dX28_ends_48 (v := 1) (by decide) ?_
  refine w_goto 53 dX28_ends_49 (by decide) ?_
  exact (pX28_ends_b53 hd hf).to trivial
def fX28_ends_b35 (N : Nat) (l2 : Int32) (l3 : Int32) (h : eH) : Option (Int32 × eH) :=
  if l3 = (1073741823 : Int32) then
    fX28_ends_b48 N h
  else
    if (-10000 : Int32) < l2 then
      fX28_ends_b53 N (0 : Int32) h
    else
      fX28_ends_b48 N h
theorem pX28_ends_b35 {w : eW} {d : Nat} (hd : 3 ≤ d + 1) {N : Nat} {l2 : Int32} {l3 : Int32} {h : eH} {q} (hf : fX28_ends_b35 N l2 l3 h = some q) : wp w (d + 1) YX28_ends 35 [none, none, some (.int l2), some (.int l3)] [] h (e_is (e_rn c_I q)) := by
  unfold fX28_ends_b35 at hf
  refine w_iload_n dX28_ends_35 rfl rfl ?_
  refine w_ldc dX28_ends_36 q1613 ?_
  refine w_icmp_eq 48 dX28_ends_38 (by decide) (fun c1 => ?_) (fun c1 => ?_)
  · replace hf := (if_pos (show l3 = (1073741823 : Int32) from c1)).symm.trans hf
    exact (pX28_ends_b48 hd hf).to trivial
  · replace hf := (if_neg (show ¬ (l3 = (1073741823 : Int32)) from c1)).symm.trans hf
    refine w_iload_n dX28_ends_41 rfl rfl ?_
    refine w_sipush dX28_ends_42 (v := -10000) (by decide) ?_
    refine w_icmp_gt 52 dX28_ends_45 (by decide) (fun c2 => ?_) (fun c2 => ?_)
    · replace hf := (if_pos (show (-10000 : Int32) < l2 from c2)).symm.trans hf
      refine w_iconst dX28_ends_52 (v := 0) (by decide) ?_
      exact (pX28_ends_b53 hd hf).to trivial
    · replace hf := (if_neg (show ¬ ((-10000 : Int32) < l2) from c2)).symm.trans hf
      exact (pX28_ends_b48 hd hf).to trivial
def fX28_ends (N : Nat) (this : Nat) (p0 : Int32) (p1 : Int32) (h : eH) : Option (Int32 × eH) :=
  (k_ok 27 h this).bind fun _ =>
  (fX28_cost N this p1 h).bind fun q2 =>
  (g_I 27 q2.2 this 9).bind fun x3 =>
  if x3 < q2.1 then
    fX28_ends_b35 N p1 q2.1 q2.2
  else
    (p_V 27 q2.2 this 9 (.int q2.1)).bind fun h6 =>
    (p_V 27 h6 this 8 (.int p0)).bind fun h8 =>
    (g_A 27 h8 this 2).bind fun a10 =>
    (g_A 27 h8 this 1).bind fun a12 =>
    (k_ok 28 h8 a10).bind fun _ =>
    (fX29_become N a10 a12 h8).bind fun q15 =>
    fX28_ends_b35 N p1 q2.1 q15.2
theorem pX28_ends {w : eW} {d : Nat} (hd : 3 ≤ d) {N : Nat} {this : Nat} {p0 : Int32} {p1 : Int32} {h : eH} {q} (hf : fX28_ends N this p0 p1 h = some q) : wm w d YX28_ends [.ref this, .int p0, .int p1] h (e_is (e_rn c_I q)) := by
  obtain ⟨d, rfl⟩ : ∃ e, d = e + 1 := ⟨d - 1, by omega⟩
  show wp w (d + 1) YX28_ends 0 [some (.ref this), some (.int p0), some (.int p1), none] [] h _
  unfold fX28_ends at hf
  refine w_aload_n dX28_ends_0 rfl rfl ?_
  refine w_iload_n dX28_ends_1 rfl rfl ?_
  obtain ⟨_, b1, hf⟩ := Option.bind_eq_some_iff.mp hf
  refine x_cnI hf (e_stV (Yc := YX28_cost) (ci := 27) (av := [.int p1]) (st := []) dX28_ends_2 q3257 mX28_cost rfl (k_ok_some b1).1 (k_ok_some b1).2) mX28_cost.2.2.1 mX28_cost.2.2.2.2.1 (Nat.le_of_ble_eq_true rfl) (Nat.le_of_ble_eq_true rfl) (fun q hq => pX28_cost (by omega) hq) (fun q2 hf => ?_)
  refine w_istore_n dX28_ends_5 rfl (by decide) (ls' := [some (.ref this), some (.int p0), some (.int p1), some (.int q2.1)]) rfl ?_
  refine w_iload_n dX28_ends_6 rfl rfl ?_
  refine w_aload_n dX28_ends_7 rfl rfl ?_
  obtain ⟨x3, b4, hf⟩ := Option.bind_eq_some_iff.mp hf
  refine GX28_46 b4 dX28_ends_8 rfl ?_
  refine w_icmp_gt 35 dX28_ends_11 (by decide) (fun c5 => ?_) (fun c5 => ?_)
  · replace hf := (if_pos (show x3 < q2.1 from c5)).symm.trans hf
    exact (pX28_ends_b35 hd hf).to ⟨rfl, rfl, trivial⟩
  · replace hf := (if_neg (show ¬ (x3 < q2.1) from c5)).symm.trans hf
    refine w_aload_n dX28_ends_14 rfl rfl ?_
    refine w_iload_n dX28_ends_15 rfl rfl ?_
    obtain ⟨h6, b7, hf⟩ := Option.bind_eq_some_iff.mp hf
    refine SX28_46 b7 dX28_ends_16 rfl ?_
    refine w_aload_n dX28_ends_19 rfl rfl ?_
    refine w_iload_n dX28_ends_20 rfl rfl ?_
    obtain ⟨h8, b9, hf⟩ := Option.bind_eq_some_iff.mp hf
    refine SX28_42 b9 dX28_ends_21 rfl ?_
    refine w_aload_n dX28_ends_24 rfl rfl ?_
    obtain ⟨a10, b11, hf⟩ := Option.bind_eq_some_iff.mp hf
    refine GX28_18 b11 dX28_ends_25 rfl ?_
    refine w_aload_n dX28_ends_28 rfl rfl ?_
    obtain ⟨a12, b13, hf⟩ := Option.bind_eq_some_iff.mp hf
    refine GX28_12 b13 dX28_ends_29 rfl ?_
    obtain ⟨_, b14, hf⟩ := Option.bind_eq_some_iff.mp hf
    refine x_cnV hf (e_stV (Yc := YX29_become) (ci := 28) (av := [.ref a12]) (st := []) dX28_ends_32 q3280 mX29_become rfl (k_ok_some b14).1 (k_ok_some b14).2) mX29_become.2.2.1 mX29_become.2.2.2.2.1 (Nat.le_of_ble_eq_true rfl) (Nat.le_of_ble_eq_true rfl) (fun q hq => pX29_become (by omega) hq) (fun q15 hf => ?_)
    exact (pX28_ends_b35 hd hf).to ⟨rfl, rfl, trivial⟩
abbrev cX30_set : ByteArray := prog_20_method_2_code
def yX30_set : MethodName := ⟨RX30, "set", "()V"⟩
def YX30_set : eY := (yX30_set, cX30_set, 1, none, [])
theorem mX30_set : e_mv YX30_set RX30 0 := ⟨q3289, q3290, q3291, by decide, by decide +kernel, (e_sig (by decide +kernel))⟩
theorem dX30_set_0 : decode cX30_set 0 = .ok (.aload_n 0, 1) := dc_42 (by decide +kernel)
theorem dX30_set_1 : decode cX30_set 1 = .ok (.aload_n 0, 1) := dc_42 (by decide +kernel)
theorem dX30_set_2 : decode cX30_set 2 = .ok (.getfield 16, 3) := dc_180 (a := 0) (b := 16) (n := 16) (by decide +kernel)
theorem dX30_set_5 : decode cX30_set 5 = .ok (.i2l, 1) := dc_133 (by decide +kernel)
theorem dX30_set_6 : decode cX30_set 6 = .ok (.aload_n 0, 1) := dc_42 (by decide +kernel)
theorem dX30_set_7 : decode cX30_set 7 = .ok (.getfield 10, 3) := dc_180 (a := 0) (b := 10) (n := 10) (by decide +kernel)
theorem dX30_set_10 : decode cX30_set 10 = .ok (.getfield 20, 3) := dc_180 (a := 0) (b := 20) (n := 20) (by decide +kernel)
theorem dX30_set_13 : decode cX30_set 13 = .ok (.lsub, 1) := dc_101 (by decide +kernel)
theorem dX30_set_14 : decode cX30_set 14 = .ok (.putfield 24, 3) := dc_181 (a := 0) (b := 24) (n := 24) (by decide +kernel)
theorem dX30_set_17 : decode cX30_set 17 = .ok (.aload_n 0, 1) := dc_42 (by decide +kernel)
theorem dX30_set_18 : decode cX30_set 18 = .ok (.aload_n 0, 1) := dc_42 (by decide +kernel)
theorem dX30_set_19 : decode cX30_set 19 = .ok (.getfield 10, 3) := dc_180 (a := 0) (b := 10) (n := 10) (by decide +kernel)
theorem dX30_set_22 : decode cX30_set 22 = .ok (.aload_n 0, 1) := dc_42 (by decide +kernel)
theorem dX30_set_23 : decode cX30_set 23 = .ok (.getfield 16, 3) := dc_180 (a := 0) (b := 16) (n := 16) (by decide +kernel)
theorem dX30_set_26 : decode cX30_set 26 = .ok (.i2l, 1) := dc_133 (by decide +kernel)
theorem dX30_set_27 : decode cX30_set 27 = .ok (.invokevirtual 27, 3) := dc_182 (a := 0) (b := 27) (n := 27) (by decide +kernel)
theorem dX30_set_30 : decode cX30_set 30 = .ok (.putfield 31, 3) := dc_181 (a := 0) (b := 31) (n := 31) (by decide +kernel)
theorem dX30_set_33 : decode cX30_set 33 = .ok (.aload_n 0, 1) := dc_42 (by decide +kernel)
theorem dX30_set_34 : decode cX30_set 34 = .ok (.aload_n 0, 1) := dc_42 (by decide +kernel)
theorem dX30_set_35 : decode cX30_set 35 = .ok (.getfield 24, 3) := dc_180 (a := 0) (b := 24) (n := 24) (by decide +kernel)
theorem dX30_set_38 : decode cX30_set 38 = .ok (.lconst 0, 1) := dc_9 (by decide +kernel)
theorem dX30_set_39 : decode cX30_set 39 = .ok (.lcmp, 1) := dc_148 (by decide +kernel)
theorem dX30_set_40 : decode cX30_set 40 = .ok (.ifCond .le 13, 3) := dc_158 (a := 0) (b := 13) (v := 13) (by decide +kernel)
theorem dX30_set_43 : decode cX30_set 43 = .ok (.aload_n 0, 1) := dc_42 (by decide +kernel)
theorem dX30_set_44 : decode cX30_set 44 = .ok (.getfield 10, 3) := dc_180 (a := 0) (b := 10) (n := 10) (by decide +kernel)
theorem dX30_set_47 : decode cX30_set 47 = .ok (.invokevirtual 33, 3) := dc_182 (a := 0) (b := 33) (n := 33) (by decide +kernel)
theorem dX30_set_50 : decode cX30_set 50 = .ok (.goto 4, 3) := dc_167 (a := 0) (b := 4) (v := 4) (by decide +kernel)
theorem dX30_set_53 : decode cX30_set 53 = .ok (.iconst 0, 1) := dc_3 (by decide +kernel)
theorem dX30_set_54 : decode cX30_set 54 = .ok (.putfield 37, 3) := dc_181 (a := 0) (b := 37) (n := 37) (by decide +kernel)
theorem dX30_set_57 : decode cX30_set 57 = .ok (.aload_n 0, 1) := dc_42 (by decide +kernel)
theorem dX30_set_58 : decode cX30_set 58 = .ok (.aload_n 0, 1) := dc_42 (by decide +kernel)
theorem dX30_set_59 : decode cX30_set 59 = .ok (.getfield 24, 3) := dc_180 (a := 0) (b := 24) (n := 24) (by decide +kernel)
theorem dX30_set_62 : decode cX30_set 62 = .ok (.lconst 0, 1) := dc_9 (by decide +kernel)
theorem dX30_set_63 : decode cX30_set 63 = .ok (.lcmp, 1) := dc_148 (by decide +kernel)
theorem dX30_set_64 : decode cX30_set 64 = .ok (.ifCond .le 18, 3) := dc_158 (a := 0) (b := 18) (v := 18) (by decide +kernel)
theorem dX30_set_67 : decode cX30_set 67 = .ok (.aload_n 0, 1) := dc_42 (by decide +kernel)
theorem dX30_set_68 : decode cX30_set 68 = .ok (.getfield 10, 3) := dc_180 (a := 0) (b := 10) (n := 10) (by decide +kernel)
theorem dX30_set_71 : decode cX30_set 71 = .ok (.getfield 39, 3) := dc_180 (a := 0) (b := 39) (n := 39) (by decide +kernel)
theorem dX30_set_74 : decode cX30_set 74 = .ok (.aload_n 0, 1) := dc_42 (by decide +kernel)
theorem dX30_set_75 : decode cX30_set 75 = .ok (.getfield 37, 3) := dc_180 (a := 0) (b := 37) (n := 37) (by decide +kernel)
theorem dX30_set_78 : decode cX30_set 78 = .ok (.laload, 1) := dc_47 (by decide +kernel)
theorem dX30_set_79 : decode cX30_set 79 = .ok (.goto 23, 3) := dc_167 (a := 0) (b := 23) (v := 23) (by decide +kernel)
theorem dX30_set_82 : decode cX30_set 82 = .ok (.aload_n 0, 1) := dc_42 (by decide +kernel)
theorem dX30_set_83 : decode cX30_set 83 = .ok (.getfield 24, 3) := dc_180 (a := 0) (b := 24) (n := 24) (by decide +kernel)
theorem dX30_set_86 : decode cX30_set 86 = .ok (.lconst 0, 1) := dc_9 (by decide +kernel)
theorem dX30_set_87 : decode cX30_set 87 = .ok (.lcmp, 1) := dc_148 (by decide +kernel)
theorem dX30_set_88 : decode cX30_set 88 = .ok (.ifCond .ge 13, 3) := dc_156 (a := 0) (b := 13) (v := 13) (by decide +kernel)
theorem dX30_set_91 : decode cX30_set 91 = .ok (.aload_n 0, 1) := dc_42 (by decide +kernel)
theorem dX30_set_92 : decode cX30_set 92 = .ok (.getfield 10, 3) := dc_180 (a := 0) (b := 10) (n := 10) (by decide +kernel)
theorem dX30_set_95 : decode cX30_set 95 = .ok (.getfield 43, 3) := dc_180 (a := 0) (b := 43) (n := 43) (by decide +kernel)
theorem dX30_set_98 : decode cX30_set 98 = .ok (.goto 4, 3) := dc_167 (a := 0) (b := 4) (v := 4) (by decide +kernel)
theorem dX30_set_101 : decode cX30_set 101 = .ok (.lconst 0, 1) := dc_9 (by decide +kernel)
theorem dX30_set_102 : decode cX30_set 102 = .ok (.putfield 46, 3) := dc_181 (a := 0) (b := 46) (n := 46) (by decide +kernel)
theorem dX30_set_105 : decode cX30_set 105 = .ok (.return_, 1) := dc_177 (by decide +kernel)
theorem GX30_10 {w : eW} {d : Nat} {Y : eY} {pc : Nat} {ls : eL} {st : List Value} {h : eH} {Q : eO → eH → Prop} {a : Nat} {x : Nat} (hf : g_A 29 h a 0 = some x) (hd : decode Y.2.1 pc = .ok (.getfield 10, 3)) (hY : Y.1.cls = RX30) (kk : wp w d Y (pc + 3) ls (.ref x :: st) h Q) : wp w d Y pc ls (.ref a :: st) h Q := x_gA (ci := 29) (k := 0) hf hd rfl (by decide) (by rw [hY]; exact q1565) kk
theorem GX30_16 {w : eW} {d : Nat} {Y : eY} {pc : Nat} {ls : eL} {st : List Value} {h : eH} {Q : eO → eH → Prop} {a : Nat} {x : Int32} (hf : g_I 29 h a 1 = some x) (hd : decode Y.2.1 pc = .ok (.getfield 16, 3)) (hY : Y.1.cls = RX30) (kk : wp w d Y (pc + 3) ls (.int x :: st) h Q) : wp w d Y pc ls (.ref a :: st) h Q := x_gI (ci := 29) (k := 1) hf hd rfl (by decide) (by rw [hY]; exact q1567) kk
theorem GX30_20 {w : eW} {d : Nat} {Y : eY} {pc : Nat} {ls : eL} {st : List Value} {h : eH} {Q : eO → eH → Prop} {a : Nat} {x : Int64} (hf : g_J 28 h a 2 = some x) (hd : decode Y.2.1 pc = .ok (.getfield 20, 3)) (hY : Y.1.cls = RX30) (kk : wp w d Y (pc + 3) ls (.long x :: st) h Q) : wp w d Y pc ls (.ref a :: st) h Q := x_gJN (ci := 28) (k := 2) hf hd rfl (by decide) (by rw [hY]; exact q1543) kk
theorem GX30_24 {w : eW} {d : Nat} {Y : eY} {pc : Nat} {ls : eL} {st : List Value} {h : eH} {Q : eO → eH → Prop} {a : Nat} {x : Int64} (hf : g_J 29 h a 9 = some x) (hd : decode Y.2.1 pc = .ok (.getfield 24, 3)) (hY : Y.1.cls = RX30) (kk : wp w d Y (pc + 3) ls (.long x :: st) h Q) : wp w d Y pc ls (.ref a :: st) h Q := x_gJ (ci := 29) (k := 9) hf hd rfl (by decide) (by rw [hY]; exact q1581) kk
theorem GX30_37 {w : eW} {d : Nat} {Y : eY} {pc : Nat} {ls : eL} {st : List Value} {h : eH} {Q : eO → eH → Prop} {a : Nat} {x : Int32} (hf : g_I 29 h a 10 = some x) (hd : decode Y.2.1 pc = .ok (.getfield 37, 3)) (hY : Y.1.cls = RX30) (kk : wp w d Y (pc + 3) ls (.int x :: st) h Q) : wp w d Y pc ls (.ref a :: st) h Q := x_gI (ci := 29) (k := 10) hf hd rfl (by decide) (by rw [hY]; exact q1582) kk
theorem GX30_39 {w : eW} {d : Nat} {Y : eY} {pc : Nat} {ls : eL} {st : List Value} {h : eH} {Q : eO → eH → Prop} {a : Nat} {x : Nat} (hf : g_A 28 h a 0 = some x) (hd : decode Y.2.1 pc = .ok (.getfield 39, 3)) (hY : Y.1.cls = RX30) (kk : wp w d Y (pc + 3) ls (.ref x :: st) h Q) : wp w d Y pc ls (.ref a :: st) h Q := x_gAN (ci := 28) (k := 0) hf hd rfl (by decide) (by rw [hY]; exact q1540) kk
theorem GX30_43 {w : eW} {d : Nat} {Y : eY} {pc : Nat} {ls : eL} {st : List Value} {h : eH} {Q : eO → eH → Prop} {a : Nat} {x : Int64} (hf : g_J 28 h a 1 = some x) (hd : decode Y.2.1 pc = .ok (.getfield 43, 3)) (hY : Y.1.cls = RX30) (kk : wp w d Y (pc + 3) ls (.long x :: st) h Q) : wp w d Y pc ls (.ref a :: st) h Q := x_gJN (ci := 28) (k := 1) hf hd rfl (by decide) (by rw [hY]; exact q1542) kk
theorem SX30_24 {w : eW} {d : Nat} {Y : eY} {pc : Nat} {ls : eL} {st : List Value} {h : eH} {Q : eO → eH → Prop} {a : Nat} {h' : eH} {x : Int64} (hf : p_V 29 h a 9 (.long x) = some h') (hd : decode Y.2.1 pc = .ok (.putfield 24, 3)) (hY : Y.1.cls = RX30) (kk : wp w d Y (pc + 3) ls st h' Q) : wp w d Y pc ls (.long x :: .ref a :: st) h Q := x_pJ (ci := 29) (k := 9) hf hd rfl (by decide) (by rw [hY]; exact q1581) rfl rfl kk
theorem SX30_31 {w : eW} {d : Nat} {Y : eY} {pc : Nat} {ls : eL} {st : List Value} {h : eH} {Q : eO → eH → Prop} {a : Nat} {h' : eH} {x : Int32} (hf : p_V 29 h a 8 (.int x) = some h') (hd : decode Y.2.1 pc = .ok (.putfield 31, 3)) (hY : Y.1.cls = RX30) (kk : wp w d Y (pc + 3) ls st h' Q) : wp w d Y pc ls (.int x :: .ref a :: st) h Q := x_pI (ci := 29) (k := 8) hf hd rfl (by decide) (by rw [hY]; exact q1580) rfl rfl kk
theorem SX30_37 {w : eW} {d : Nat} {Y : eY} {pc : Nat} {ls : eL} {st : List Value} {h : eH} {Q : eO → eH → Prop} {a : Nat} {h' : eH} {x : Int32} (hf : p_V 29 h a 10 (.int x) = some h') (hd : decode Y.2.1 pc = .ok (.putfield 37, 3)) (hY : Y.1.cls = RX30) (kk : wp w d Y (pc + 3) ls st h' Q) : wp w d Y pc ls (.int x :: .ref a :: st) h Q := x_pI (ci := 29) (k := 10) hf hd rfl (by decide) (by rw [hY]; exact q1582) rfl rfl kk
theorem SX30_46 {w : eW} {d : Nat} {Y : eY} {pc : Nat} {ls : eL} {st : List Value} {h : eH} {Q : eO → eH → Prop} {a : Nat} {h' : eH} {x : Int64} (hf : p_V 29 h a 11 (.long x) = some h') (hd : decode Y.2.1 pc = .ok (.putfield 46, 3)) (hY : Y.1.cls = RX30) (kk : wp w d Y (pc + 3) ls st h' Q) : wp w d Y pc ls (.long x :: .ref a :: st) h Q := x_pJ (ci := 29) (k := 11) hf hd rfl (by decide) (by rw [hY]; exact q1583) rfl rfl kk
def fX30_set_b102 (N : Nat) (s0 : Nat) (s1 : Int64) (h : eH) : Option (Unit × eH) :=
  (p_V 29 h s0 11 (.long s1)).bind fun h1 =>
  some ((), h1)
theorem pX30_set_b102 {w : eW} {d : Nat} (hd : 2 ≤ d + 1) {N : Nat} {s0 : Nat} {s1 : Int64} {h : eH} {q} (hf : fX30_set_b102 N s0 s1 h = some q) : wp w (d + 1) YX30_set 102 [none] [.long s1, .ref s0] h (e_is (e_rn c_V q)) := by
  unfold fX30_set_b102 at hf
  obtain ⟨h1, b2, hf⟩ := Option.bind_eq_some_iff.mp hf
  refine SX30_46 b2 dX30_set_102 rfl ?_
  cases hf
  exact w_vret dX30_set_105 rfl rfl
def fX30_set_b54 (N : Nat) (l0 : Nat) (s0 : Nat) (s1 : Int32) (h : eH) : Option (Unit × eH) :=
  (p_V 29 h s0 10 (.int s1)).bind fun h1 =>
  (g_J 29 h1 l0 9).bind fun x3 =>
  if (lg_cmp x3 (0 : Int64)) ≤ 0 then
    (g_J 29 h1 l0 9).bind fun x6 =>
    if 0 ≤ (lg_cmp x6 (0 : Int64)) then
      fX30_set_b102 N l0 (0 : Int64) h1
    else
      (g_A 29 h1 l0 0).bind fun a9 =>
      (g_J 28 h1 a9 1).bind fun x11 =>
      fX30_set_b102 N l0 x11 h1
  else
    (g_A 29 h1 l0 0).bind fun a13 =>
    (g_A 28 h1 a13 0).bind fun a15 =>
    (g_I 29 h1 l0 10).bind fun x17 =>
    (r_J h1 a15 x17).bind fun x19 =>
    fX30_set_b102 N l0 x19 h1
theorem pX30_set_b54 {w : eW} {d : Nat} (hd : 2 ≤ d + 1) {N : Nat} {l0 : Nat} {s0 : Nat} {s1 : Int32} {h : eH} {q} (hf : fX30_set_b54 N l0 s0 s1 h = some q) : wp w (d + 1) YX30_set 54 [some (.ref l0)] [.int s1, .ref s0] h (e_is (e_rn c_V q)) := by
  unfold fX30_set_b54 at hf
  obtain ⟨h1, b2, hf⟩ := Option.bind_eq_some_iff.mp hf
  refine SX30_37 b2 dX30_set_54 rfl ?_
  refine w_aload_n dX30_set_57 rfl rfl ?_
  refine w_aload_n dX30_set_58 rfl rfl ?_
  obtain ⟨x3, b4, hf⟩ := Option.bind_eq_some_iff.mp hf
  refine GX30_24 b4 dX30_set_59 rfl ?_
  refine w_lconst dX30_set_62 (v := 0) (by decide) ?_
  refine w_lcmp dX30_set_63 ?_
  refine w_if_le 82 dX30_set_64 (by decide) (fun c5 => ?_) (fun c5 => ?_)
  · replace hf := (if_pos (show (lg_cmp x3 (0 : Int64)) ≤ 0 from c5)).symm.trans hf
    refine w_aload_n dX30_set_82 rfl rfl ?_
    obtain ⟨x6, b7, hf⟩ := Option.bind_eq_some_iff.mp hf
    refine GX30_24 b7 dX30_set_83 rfl ?_
    refine w_lconst dX30_set_86 (v := 0) (by decide) ?_
    refine w_lcmp dX30_set_87 ?_
    refine w_if_ge 101 dX30_set_88 (by decide) (fun c8 => ?_) (fun c8 => ?_)
    · replace hf := (if_pos (show 0 ≤ (lg_cmp x6 (0 : Int64)) from c8)).symm.trans hf
      refine w_lconst dX30_set_101 (v := 0) (by decide) ?_
      exact (pX30_set_b102 hd hf).to trivial
    · replace hf := (if_neg (show ¬ (0 ≤ (lg_cmp x6 (0 : Int64))) from c8)).symm.trans hf
      refine w_aload_n dX30_set_91 rfl rfl ?_
      obtain ⟨a9, b10, hf⟩ := Option.bind_eq_some_iff.mp hf
      refine GX30_10 b10 dX30_set_92 rfl ?_
      obtain ⟨x11, b12, hf⟩ := Option.bind_eq_some_iff.mp hf
      refine GX30_43 b12 dX30_set_95 rfl ?_
      refine w_goto 102 dX30_set_98 (by decide) ?_
      exact (pX30_set_b102 hd hf).to trivial
  · replace hf := (if_neg (show ¬ ((lg_cmp x3 (0 : Int64)) ≤ 0) from c5)).symm.trans hf
    refine w_aload_n dX30_set_67 rfl rfl ?_
    obtain ⟨a13, b14, hf⟩ := Option.bind_eq_some_iff.mp hf
    refine GX30_10 b14 dX30_set_68 rfl ?_
    obtain ⟨a15, b16, hf⟩ := Option.bind_eq_some_iff.mp hf
    refine GX30_39 b16 dX30_set_71 rfl ?_
    refine w_aload_n dX30_set_74 rfl rfl ?_
    obtain ⟨x17, b18, hf⟩ := Option.bind_eq_some_iff.mp hf
    refine GX30_37 b18 dX30_set_75 rfl ?_
    obtain ⟨x19, b20, hf⟩ := Option.bind_eq_some_iff.mp hf
    refine x_rJ b20 dX30_set_78 ?_
    refine w_goto 102 dX30_set_79 (by decide) ?_
    exact (pX30_set_b102 hd hf).to trivial
def fX30_set (N : Nat) (this : Nat) (h : eH) : Option (Unit × eH) :=
  (g_I 29 h this 1).bind fun x1 =>
  (g_A 29 h this 0).bind fun a3 =>
  (g_J 28 h a3 2).bind fun x5 =>
  (p_V 29 h this 9 (.long ((x1).toInt64 - x5))).bind fun h7 =>
  (g_A 29 h7 this 0).bind fun a9 =>
  (g_I 29 h7 this 1).bind fun x11 =>
  (k_ok 28 h7 a9).bind fun _ =>
  (fX29_badness N a9 (x11).toInt64 h7).bind fun q14 =>
  (p_V 29 q14.2 this 8 (.int q14.1)).bind fun h15 =>
  (g_J 29 h15 this 9).bind fun x17 =>
  if (lg_cmp x17 (0 : Int64)) ≤ 0 then
    fX30_set_b54 N this this (0 : Int32) h15
  else
    (g_A 29 h15 this 0).bind fun a20 =>
    (k_ok 28 h15 a20).bind fun _ =>
    (fX29_order N a20 h15).bind fun q23 =>
    fX30_set_b54 N this this q23.1 q23.2
theorem pX30_set {w : eW} {d : Nat} (hd : 2 ≤ d) {N : Nat} {this : Nat} {h : eH} {q} (hf : fX30_set N this h = some q) : wm w d YX30_set [.ref this] h (e_is (e_rn c_V q)) := by
  obtain ⟨d, rfl⟩ : ∃ e, d = e + 1 := ⟨d - 1, by omega⟩
  show wp w (d + 1) YX30_set 0 [some (.ref this)] [] h _
  unfold fX30_set at hf
  refine w_aload_n dX30_set_0 rfl rfl ?_
  refine w_aload_n dX30_set_1 rfl rfl ?_
  obtain ⟨x1, b2, hf⟩ := Option.bind_eq_some_iff.mp hf
  refine GX30_16 b2 dX30_set_2 rfl ?_
  refine w_i2l dX30_set_5 ?_
  refine w_aload_n dX30_set_6 rfl rfl ?_
  obtain ⟨a3, b4, hf⟩ := Option.bind_eq_some_iff.mp hf
  refine GX30_10 b4 dX30_set_7 rfl ?_
  obtain ⟨x5, b6, hf⟩ := Option.bind_eq_some_iff.mp hf
  refine GX30_20 b6 dX30_set_10 rfl ?_
  refine w_lsub dX30_set_13 ?_
  obtain ⟨h7, b8, hf⟩ := Option.bind_eq_some_iff.mp hf
  refine SX30_24 b8 dX30_set_14 rfl ?_
  refine w_aload_n dX30_set_17 rfl rfl ?_
  refine w_aload_n dX30_set_18 rfl rfl ?_
  obtain ⟨a9, b10, hf⟩ := Option.bind_eq_some_iff.mp hf
  refine GX30_10 b10 dX30_set_19 rfl ?_
  refine w_aload_n dX30_set_22 rfl rfl ?_
  obtain ⟨x11, b12, hf⟩ := Option.bind_eq_some_iff.mp hf
  refine GX30_16 b12 dX30_set_23 rfl ?_
  refine w_i2l dX30_set_26 ?_
  obtain ⟨_, b13, hf⟩ := Option.bind_eq_some_iff.mp hf
  refine x_cnI hf (e_stV (Yc := YX29_badness) (ci := 28) (av := [.long (x11).toInt64]) (st := [.ref this]) dX30_set_27 q3292 mX29_badness rfl (k_ok_some b13).1 (k_ok_some b13).2) mX29_badness.2.2.1 mX29_badness.2.2.2.2.1 (Nat.le_of_ble_eq_true rfl) (Nat.le_of_ble_eq_true rfl) (fun q hq => pX29_badness (by omega) hq) (fun q14 hf => ?_)
  obtain ⟨h15, b16, hf⟩ := Option.bind_eq_some_iff.mp hf
  refine SX30_31 b16 dX30_set_30 rfl ?_
  refine w_aload_n dX30_set_33 rfl rfl ?_
  refine w_aload_n dX30_set_34 rfl rfl ?_
  obtain ⟨x17, b18, hf⟩ := Option.bind_eq_some_iff.mp hf
  refine GX30_24 b18 dX30_set_35 rfl ?_
  refine w_lconst dX30_set_38 (v := 0) (by decide) ?_
  refine w_lcmp dX30_set_39 ?_
  refine w_if_le 53 dX30_set_40 (by decide) (fun c19 => ?_) (fun c19 => ?_)
  · replace hf := (if_pos (show (lg_cmp x17 (0 : Int64)) ≤ 0 from c19)).symm.trans hf
    refine w_iconst dX30_set_53 (v := 0) (by decide) ?_
    exact (pX30_set_b54 hd hf).to ⟨rfl, trivial⟩
  · replace hf := (if_neg (show ¬ ((lg_cmp x17 (0 : Int64)) ≤ 0) from c19)).symm.trans hf
    refine w_aload_n dX30_set_43 rfl rfl ?_
    obtain ⟨a20, b21, hf⟩ := Option.bind_eq_some_iff.mp hf
    refine GX30_10 b21 dX30_set_44 rfl ?_
    obtain ⟨_, b22, hf⟩ := Option.bind_eq_some_iff.mp hf
    refine x_cnI hf (e_stV (Yc := YX29_order) (ci := 28) (av := []) (st := [.ref this]) dX30_set_47 q3293 mX29_order rfl (k_ok_some b22).1 (k_ok_some b22).2) mX29_order.2.2.1 mX29_order.2.2.2.2.1 (Nat.le_of_ble_eq_true rfl) (Nat.le_of_ble_eq_true rfl) (fun q hq => pX29_order (by omega) hq) (fun q23 hf => ?_)
    refine w_goto 54 dX30_set_50 (by decide) ?_
    exact (pX30_set_b54 hd hf).to ⟨rfl, trivial⟩
abbrev cX28_finish : ByteArray := prog_21_method_7_code
def yX28_finish : MethodName := ⟨RX28, "finish", "(I)V"⟩
def YX28_finish : eY := (yX28_finish, cX28_finish, 3, none, [])
theorem mX28_finish : e_mv YX28_finish RX28 1 := ⟨q3286, qs125, q3287, by decide, by decide +kernel, (e_sig (by decide +kernel))⟩
theorem dX28_finish_0 : decode cX28_finish 0 = .ok (.aload_n 0, 1) := dc_42 (by decide +kernel)
theorem dX28_finish_1 : decode cX28_finish 1 = .ok (.getfield 24, 3) := dc_180 (a := 0) (b := 24) (n := 24) (by decide +kernel)
theorem dX28_finish_4 : decode cX28_finish 4 = .ok (.aload_n 0, 1) := dc_42 (by decide +kernel)
theorem dX28_finish_5 : decode cX28_finish 5 = .ok (.getfield 42, 3) := dc_180 (a := 0) (b := 42) (n := 42) (by decide +kernel)
theorem dX28_finish_8 : decode cX28_finish 8 = .ok (.putfield 90, 3) := dc_181 (a := 0) (b := 90) (n := 90) (by decide +kernel)
theorem dX28_finish_11 : decode cX28_finish 11 = .ok (.aload_n 0, 1) := dc_42 (by decide +kernel)
theorem dX28_finish_12 : decode cX28_finish 12 = .ok (.getfield 24, 3) := dc_180 (a := 0) (b := 24) (n := 24) (by decide +kernel)
theorem dX28_finish_15 : decode cX28_finish 15 = .ok (.aload_n 0, 1) := dc_42 (by decide +kernel)
theorem dX28_finish_16 : decode cX28_finish 16 = .ok (.getfield 46, 3) := dc_180 (a := 0) (b := 46) (n := 46) (by decide +kernel)
theorem dX28_finish_19 : decode cX28_finish 19 = .ok (.putfield 93, 3) := dc_181 (a := 0) (b := 93) (n := 93) (by decide +kernel)
theorem dX28_finish_22 : decode cX28_finish 22 = .ok (.aload_n 0, 1) := dc_42 (by decide +kernel)
theorem dX28_finish_23 : decode cX28_finish 23 = .ok (.getfield 24, 3) := dc_180 (a := 0) (b := 24) (n := 24) (by decide +kernel)
theorem dX28_finish_26 : decode cX28_finish 26 = .ok (.iload_n 1, 1) := dc_27 (by decide +kernel)
theorem dX28_finish_27 : decode cX28_finish 27 = .ok (.putfield 95, 3) := dc_181 (a := 0) (b := 95) (n := 95) (by decide +kernel)
theorem dX28_finish_30 : decode cX28_finish 30 = .ok (.aload_n 0, 1) := dc_42 (by decide +kernel)
theorem dX28_finish_31 : decode cX28_finish 31 = .ok (.getfield 24, 3) := dc_180 (a := 0) (b := 24) (n := 24) (by decide +kernel)
theorem dX28_finish_34 : decode cX28_finish 34 = .ok (.getfield 98, 3) := dc_180 (a := 0) (b := 98) (n := 98) (by decide +kernel)
theorem dX28_finish_37 : decode cX28_finish 37 = .ok (.aload_n 0, 1) := dc_42 (by decide +kernel)
theorem dX28_finish_38 : decode cX28_finish 38 = .ok (.getfield 18, 3) := dc_180 (a := 0) (b := 18) (n := 18) (by decide +kernel)
theorem dX28_finish_41 : decode cX28_finish 41 = .ok (.invokevirtual 77, 3) := dc_182 (a := 0) (b := 77) (n := 77) (by decide +kernel)
theorem dX28_finish_44 : decode cX28_finish 44 = .ok (.aload_n 0, 1) := dc_42 (by decide +kernel)
theorem dX28_finish_45 : decode cX28_finish 45 = .ok (.getfield 24, 3) := dc_180 (a := 0) (b := 24) (n := 24) (by decide +kernel)
theorem dX28_finish_48 : decode cX28_finish 48 = .ok (.invokevirtual 99, 3) := dc_182 (a := 0) (b := 99) (n := 99) (by decide +kernel)
theorem dX28_finish_51 : decode cX28_finish 51 = .ok (.aload_n 0, 1) := dc_42 (by decide +kernel)
theorem dX28_finish_52 : decode cX28_finish 52 = .ok (.getfield 28, 3) := dc_180 (a := 0) (b := 28) (n := 28) (by decide +kernel)
theorem dX28_finish_55 : decode cX28_finish 55 = .ok (.astore_n 2, 1) := dc_77 (by decide +kernel)
theorem dX28_finish_56 : decode cX28_finish 56 = .ok (.aload_n 0, 1) := dc_42 (by decide +kernel)
theorem dX28_finish_57 : decode cX28_finish 57 = .ok (.aload_n 0, 1) := dc_42 (by decide +kernel)
theorem dX28_finish_58 : decode cX28_finish 58 = .ok (.getfield 24, 3) := dc_180 (a := 0) (b := 24) (n := 24) (by decide +kernel)
theorem dX28_finish_61 : decode cX28_finish 61 = .ok (.putfield 28, 3) := dc_181 (a := 0) (b := 28) (n := 28) (by decide +kernel)
theorem dX28_finish_64 : decode cX28_finish 64 = .ok (.aload_n 0, 1) := dc_42 (by decide +kernel)
theorem dX28_finish_65 : decode cX28_finish 65 = .ok (.aload_n 2, 1) := dc_44 (by decide +kernel)
theorem dX28_finish_66 : decode cX28_finish 66 = .ok (.putfield 24, 3) := dc_181 (a := 0) (b := 24) (n := 24) (by decide +kernel)
theorem dX28_finish_69 : decode cX28_finish 69 = .ok (.aload_n 0, 1) := dc_42 (by decide +kernel)
theorem dX28_finish_70 : decode cX28_finish 70 = .ok (.aload_n 0, 1) := dc_42 (by decide +kernel)
theorem dX28_finish_71 : decode cX28_finish 71 = .ok (.getfield 42, 3) := dc_180 (a := 0) (b := 42) (n := 42) (by decide +kernel)
theorem dX28_finish_74 : decode cX28_finish 74 = .ok (.putfield 102, 3) := dc_181 (a := 0) (b := 102) (n := 102) (by decide +kernel)
theorem dX28_finish_77 : decode cX28_finish 77 = .ok (.aload_n 0, 1) := dc_42 (by decide +kernel)
theorem dX28_finish_78 : decode cX28_finish 78 = .ok (.invokevirtual 35, 3) := dc_182 (a := 0) (b := 35) (n := 35) (by decide +kernel)
theorem dX28_finish_81 : decode cX28_finish 81 = .ok (.return_, 1) := dc_177 (by decide +kernel)
theorem GX28_28 {w : eW} {d : Nat} {Y : eY} {pc : Nat} {ls : eL} {st : List Value} {h : eH} {Q : eO → eH → Prop} {a : Nat} {x : Nat} (hf : g_A 27 h a 7 = some x) (hd : decode Y.2.1 pc = .ok (.getfield 28, 3)) (hY : Y.1.cls = RX28) (kk : wp w d Y (pc + 3) ls (.ref x :: st) h Q) : wp w d Y pc ls (.ref a :: st) h Q := x_gA (ci := 27) (k := 7) hf hd rfl (by decide) (by rw [hY]; exact q1628) kk
theorem GX28_42 {w : eW} {d : Nat} {Y : eY} {pc : Nat} {ls : eL} {st : List Value} {h : eH} {Q : eO → eH → Prop} {a : Nat} {x : Int32} (hf : g_I 27 h a 8 = some x) (hd : decode Y.2.1 pc = .ok (.getfield 42, 3)) (hY : Y.1.cls = RX28) (kk : wp w d Y (pc + 3) ls (.int x :: st) h Q) : wp w d Y pc ls (.ref a :: st) h Q := x_gI (ci := 27) (k := 8) hf hd rfl (by decide) (by rw [hY]; exact q1630) kk
theorem GX28_98 {w : eW} {d : Nat} {Y : eY} {pc : Nat} {ls : eL} {st : List Value} {h : eH} {Q : eO → eH → Prop} {a : Nat} {x : Nat} (hf : g_A 29 h a 0 = some x) (hd : decode Y.2.1 pc = .ok (.getfield 98, 3)) (hY : Y.1.cls = RX28) (kk : wp w d Y (pc + 3) ls (.ref x :: st) h Q) : wp w d Y pc ls (.ref a :: st) h Q := x_gAN (ci := 29) (k := 0) hf hd rfl (by decide) (by rw [hY]; exact q1566) kk
theorem SX28_90 {w : eW} {d : Nat} {Y : eY} {pc : Nat} {ls : eL} {st : List Value} {h : eH} {Q : eO → eH → Prop} {a : Nat} {h' : eH} {x : Int32} (hf : p_V 29 h a 5 (.int x) = some h') (hd : decode Y.2.1 pc = .ok (.putfield 90, 3)) (hY : Y.1.cls = RX28) (kk : wp w d Y (pc + 3) ls st h' Q) : wp w d Y pc ls (.int x :: .ref a :: st) h Q := x_pIN (ci := 29) (k := 5) hf hd rfl (by decide) (by rw [hY]; exact q1576) rfl rfl kk
theorem SX28_93 {w : eW} {d : Nat} {Y : eY} {pc : Nat} {ls : eL} {st : List Value} {h : eH} {Q : eO → eH → Prop} {a : Nat} {h' : eH} {x : Int32} (hf : p_V 29 h a 6 (.int x) = some h') (hd : decode Y.2.1 pc = .ok (.putfield 93, 3)) (hY : Y.1.cls = RX28) (kk : wp w d Y (pc + 3) ls st h' Q) : wp w d Y pc ls (.int x :: .ref a :: st) h Q := x_pIN (ci := 29) (k := 6) hf hd rfl (by decide) (by rw [hY]; exact q1578) rfl rfl kk
theorem SX28_95 {w : eW} {d : Nat} {Y : eY} {pc : Nat} {ls : eL} {st : List Value} {h : eH} {Q : eO → eH → Prop} {a : Nat} {h' : eH} {x : Int32} (hf : p_V 29 h a 7 (.int x) = some h') (hd : decode Y.2.1 pc = .ok (.putfield 95, 3)) (hY : Y.1.cls = RX28) (kk : wp w d Y (pc + 3) ls st h' Q) : wp w d Y pc ls (.int x :: .ref a :: st) h Q := x_pIN (ci := 29) (k := 7) hf hd rfl (by decide) (by rw [hY]; exact q1579) rfl rfl kk
def fX28_finish (N : Nat) (this : Nat) (p0 : Int32) (h : eH) : Option (Unit × eH) :=
  (g_A 27 h this 6).bind fun a1 =>
  (g_I 27 h this 8).bind fun x3 =>
  (p_V 29 h a1 5 (.int x3)).bind fun h5 =>
  (g_A 27 h5 this 6).bind fun a7 =>
  (g_I 27 h5 this 9).bind fun x9 =>
  (p_V 29 h5 a7 6 (.int x9)).bind fun h11 =>
  (g_A 27 h11 this 6).bind fun a13 =>
  (p_V 29 h11 a13 7 (.int p0)).bind fun h15 =>
  (g_A 27 h15 this 6).bind fun a17 =>
  (g_A 29 h15 a17 0).bind fun a19 =>
  (g_A 27 h15 this 2).bind fun a21 =>
  (k_ok 28 h15 a19).bind fun _ =>
  (fX29_become N a19 a21 h15).bind fun q24 =>
  (g_A 27 q24.2 this 6).bind fun a25 =>
  (k_ok 29 q24.2 a25).bind fun _ =>
  (fX30_set N a25 q24.2).bind fun q28 =>
  (g_A 27 q28.2 this 7).bind fun a29 =>
  (g_A 27 q28.2 this 6).bind fun a31 =>
  (p_V 27 q28.2 this 7 (.ref a31)).bind fun h33 =>
  (p_V 27 h33 this 6 (.ref a29)).bind fun h35 =>
  (g_I 27 h35 this 8).bind fun x37 =>
  (p_V 27 h35 this 10 (.int x37)).bind fun h39 =>
  (k_ok 27 h39 this).bind fun _ =>
  (fX28_begin N this h39).bind fun q42 =>
  some ((), q42.2)
theorem pX28_finish {w : eW} {d : Nat} (hd : 3 ≤ d) {N : Nat} {this : Nat} {p0 : Int32} {h : eH} {q} (hf : fX28_finish N this p0 h = some q) : wm w d YX28_finish [.ref this, .int p0] h (e_is (e_rn c_V q)) := by
  obtain ⟨d, rfl⟩ : ∃ e, d = e + 1 := ⟨d - 1, by omega⟩
  show wp w (d + 1) YX28_finish 0 [some (.ref this), some (.int p0), none] [] h _
  unfold fX28_finish at hf
  refine w_aload_n dX28_finish_0 rfl rfl ?_
  obtain ⟨a1, b2, hf⟩ := Option.bind_eq_some_iff.mp hf
  refine GX28_24 b2 dX28_finish_1 rfl ?_
  refine w_aload_n dX28_finish_4 rfl rfl ?_
  obtain ⟨x3, b4, hf⟩ := Option.bind_eq_some_iff.mp hf
  refine GX28_42 b4 dX28_finish_5 rfl ?_
  obtain ⟨h5, b6, hf⟩ := Option.bind_eq_some_iff.mp hf
  refine SX28_90 b6 dX28_finish_8 rfl ?_
  refine w_aload_n dX28_finish_11 rfl rfl ?_
  obtain ⟨a7, b8, hf⟩ := Option.bind_eq_some_iff.mp hf
  refine GX28_24 b8 dX28_finish_12 rfl ?_
  refine w_aload_n dX28_finish_15 rfl rfl ?_
  obtain ⟨x9, b10, hf⟩ := Option.bind_eq_some_iff.mp hf
  refine GX28_46 b10 dX28_finish_16 rfl ?_
  obtain ⟨h11, b12, hf⟩ := Option.bind_eq_some_iff.mp hf
  refine SX28_93 b12 dX28_finish_19 rfl ?_
  refine w_aload_n dX28_finish_22 rfl rfl ?_
  obtain ⟨a13, b14, hf⟩ := Option.bind_eq_some_iff.mp hf
  refine GX28_24 b14 dX28_finish_23 rfl ?_
  refine w_iload_n dX28_finish_26 rfl rfl ?_
  obtain ⟨h15, b16, hf⟩ := Option.bind_eq_some_iff.mp hf
  refine SX28_95 b16 dX28_finish_27 rfl ?_
  refine w_aload_n dX28_finish_30 rfl rfl ?_
  obtain ⟨a17, b18, hf⟩ := Option.bind_eq_some_iff.mp hf
  refine GX28_24 b18 dX28_finish_31 rfl ?_
  obtain ⟨a19, b20, hf⟩ := Option.bind_eq_some_iff.mp hf
  refine GX28_98 b20 dX28_finish_34 rfl ?_
  refine w_aload_n dX28_finish_37 rfl rfl ?_
  obtain ⟨a21, b22, hf⟩ := Option.bind_eq_some_iff.mp hf
  refine GX28_18 b22 dX28_finish_38 rfl ?_
  obtain ⟨_, b23, hf⟩ := Option.bind_eq_some_iff.mp hf
  refine x_cnV hf (e_stV (Yc := YX29_become) (ci := 28) (av := [.ref a21]) (st := []) dX28_finish_41 q3280 mX29_become rfl (k_ok_some b23).1 (k_ok_some b23).2) mX29_become.2.2.1 mX29_become.2.2.2.2.1 (Nat.le_of_ble_eq_true rfl) (Nat.le_of_ble_eq_true rfl) (fun q hq => pX29_become (by omega) hq) (fun q24 hf => ?_)
  refine w_aload_n dX28_finish_44 rfl rfl ?_
  obtain ⟨a25, b26, hf⟩ := Option.bind_eq_some_iff.mp hf
  refine GX28_24 b26 dX28_finish_45 rfl ?_
  obtain ⟨_, b27, hf⟩ := Option.bind_eq_some_iff.mp hf
  refine x_cnV hf (e_stV (Yc := YX30_set) (ci := 29) (av := []) (st := []) dX28_finish_48 q3288 mX30_set rfl (k_ok_some b27).1 (k_ok_some b27).2) mX30_set.2.2.1 mX30_set.2.2.2.2.1 (Nat.le_of_ble_eq_true rfl) (Nat.le_of_ble_eq_true rfl) (fun q hq => pX30_set (by omega) hq) (fun q28 hf => ?_)
  refine w_aload_n dX28_finish_51 rfl rfl ?_
  obtain ⟨a29, b30, hf⟩ := Option.bind_eq_some_iff.mp hf
  refine GX28_28 b30 dX28_finish_52 rfl ?_
  refine w_astore_n dX28_finish_55 rfl (by decide) (ls' := [some (.ref this), some (.int p0), some (.ref a29)]) rfl ?_
  refine w_aload_n dX28_finish_56 rfl rfl ?_
  refine w_aload_n dX28_finish_57 rfl rfl ?_
  obtain ⟨a31, b32, hf⟩ := Option.bind_eq_some_iff.mp hf
  refine GX28_24 b32 dX28_finish_58 rfl ?_
  obtain ⟨h33, b34, hf⟩ := Option.bind_eq_some_iff.mp hf
  refine SX28_28 b34 dX28_finish_61 rfl ?_
  refine w_aload_n dX28_finish_64 rfl rfl ?_
  refine w_aload_n dX28_finish_65 rfl rfl ?_
  obtain ⟨h35, b36, hf⟩ := Option.bind_eq_some_iff.mp hf
  refine SX28_24 b36 dX28_finish_66 rfl ?_
  refine w_aload_n dX28_finish_69 rfl rfl ?_
  refine w_aload_n dX28_finish_70 rfl rfl ?_
  obtain ⟨x37, b38, hf⟩ := Option.bind_eq_some_iff.mp hf
  refine GX28_42 b38 dX28_finish_71 rfl ?_
  obtain ⟨h39, b40, hf⟩ := Option.bind_eq_some_iff.mp hf
  refine SX28_102 b40 dX28_finish_74 rfl ?_
  refine w_aload_n dX28_finish_77 rfl rfl ?_
  obtain ⟨_, b41, hf⟩ := Option.bind_eq_some_iff.mp hf
  refine x_cnV hf (e_stV (Yc := YX28_begin) (ci := 27) (av := []) (st := []) dX28_finish_78 q1609 mX28_begin rfl (k_ok_some b41).1 (k_ok_some b41).2) mX28_begin.2.2.1 mX28_begin.2.2.2.2.1 (Nat.le_of_ble_eq_true rfl) (Nat.le_of_ble_eq_true rfl) (fun q hq => pX28_begin (by omega) hq) (fun q42 hf => ?_)
  cases hf
  exact w_vret dX28_finish_81 rfl rfl
abbrev cX28_step : ByteArray := prog_21_method_8_code
def yX28_step : MethodName := ⟨RX28, "step", "()Z"⟩
def YX28_step : eY := (yX28_step, cX28_step, 3, (Option.some FieldType.boolean), [])
theorem mX28_step : e_mv YX28_step RX28 0 := ⟨q3226, q3227, q3228, by decide, by decide +kernel, (e_sig (by decide +kernel))⟩
theorem dX28_step_0 : decode cX28_step 0 = .ok (.aload_n 0, 1) := dc_42 (by decide +kernel)
theorem dX28_step_1 : decode cX28_step 1 = .ok (.getfield 102, 3) := dc_180 (a := 0) (b := 102) (n := 102) (by decide +kernel)
theorem dX28_step_4 : decode cX28_step 4 = .ok (.istore_n 1, 1) := dc_60 (by decide +kernel)
theorem dX28_step_5 : decode cX28_step 5 = .ok (.aload_n 0, 1) := dc_42 (by decide +kernel)
theorem dX28_step_6 : decode cX28_step 6 = .ok (.getfield 24, 3) := dc_180 (a := 0) (b := 24) (n := 24) (by decide +kernel)
theorem dX28_step_9 : decode cX28_step 9 = .ok (.getfield 38, 3) := dc_180 (a := 0) (b := 38) (n := 38) (by decide +kernel)
theorem dX28_step_12 : decode cX28_step 12 = .ok (.iconst (-1), 1) := dc_2 (by decide +kernel)
theorem dX28_step_13 : decode cX28_step 13 = .ok (.if_icmp .ne 52, 3) := dc_160 (a := 0) (b := 52) (v := 52) (by decide +kernel)
theorem dX28_step_16 : decode cX28_step 16 = .ok (.aload_n 0, 1) := dc_42 (by decide +kernel)
theorem dX28_step_17 : decode cX28_step 17 = .ok (.dup, 1) := dc_89 (by decide +kernel)
theorem dX28_step_18 : decode cX28_step 18 = .ok (.getfield 102, 3) := dc_180 (a := 0) (b := 102) (n := 102) (by decide +kernel)
theorem dX28_step_21 : decode cX28_step 21 = .ok (.iconst 1, 1) := dc_4 (by decide +kernel)
theorem dX28_step_22 : decode cX28_step 22 = .ok (.iadd, 1) := dc_96 (by decide +kernel)
theorem dX28_step_23 : decode cX28_step 23 = .ok (.putfield 102, 3) := dc_181 (a := 0) (b := 102) (n := 102) (by decide +kernel)
theorem dX28_step_26 : decode cX28_step 26 = .ok (.aload_n 0, 1) := dc_42 (by decide +kernel)
theorem dX28_step_27 : decode cX28_step 27 = .ok (.getfield 31, 3) := dc_180 (a := 0) (b := 31) (n := 31) (by decide +kernel)
theorem dX28_step_30 : decode cX28_step 30 = .ok (.iload_n 1, 1) := dc_27 (by decide +kernel)
theorem dX28_step_31 : decode cX28_step 31 = .ok (.invokevirtual 81, 3) := dc_182 (a := 0) (b := 81) (n := 81) (by decide +kernel)
theorem dX28_step_34 : decode cX28_step 34 = .ok (.ifCond .eq 5, 3) := dc_153 (a := 0) (b := 5) (v := 5) (by decide +kernel)
theorem dX28_step_37 : decode cX28_step 37 = .ok (.iconst 0, 1) := dc_3 (by decide +kernel)
theorem dX28_step_38 : decode cX28_step 38 = .ok (.ireturn, 1) := dc_172 (by decide +kernel)
theorem dX28_step_39 : decode cX28_step 39 = .ok (.aload_n 0, 1) := dc_42 (by decide +kernel)
theorem dX28_step_40 : decode cX28_step 40 = .ok (.iload_n 1, 1) := dc_27 (by decide +kernel)
theorem dX28_step_41 : decode cX28_step 41 = .ok (.invokevirtual 105, 3) := dc_182 (a := 0) (b := 105) (n := 105) (by decide +kernel)
theorem dX28_step_44 : decode cX28_step 44 = .ok (.aload_n 0, 1) := dc_42 (by decide +kernel)
theorem dX28_step_45 : decode cX28_step 45 = .ok (.getfield 12, 3) := dc_180 (a := 0) (b := 12) (n := 12) (by decide +kernel)
theorem dX28_step_48 : decode cX28_step 48 = .ok (.aload_n 0, 1) := dc_42 (by decide +kernel)
theorem dX28_step_49 : decode cX28_step 49 = .ok (.getfield 31, 3) := dc_180 (a := 0) (b := 31) (n := 31) (by decide +kernel)
theorem dX28_step_52 : decode cX28_step 52 = .ok (.iload_n 1, 1) := dc_27 (by decide +kernel)
theorem dX28_step_53 : decode cX28_step 53 = .ok (.aload_n 0, 1) := dc_42 (by decide +kernel)
theorem dX28_step_54 : decode cX28_step 54 = .ok (.getfield 24, 3) := dc_180 (a := 0) (b := 24) (n := 24) (by decide +kernel)
theorem dX28_step_57 : decode cX28_step 57 = .ok (.getfield 63, 3) := dc_180 (a := 0) (b := 63) (n := 63) (by decide +kernel)
theorem dX28_step_60 : decode cX28_step 60 = .ok (.invokevirtual 109, 3) := dc_182 (a := 0) (b := 109) (n := 109) (by decide +kernel)
theorem dX28_step_63 : decode cX28_step 63 = .ok (.iconst 0, 1) := dc_3 (by decide +kernel)
theorem dX28_step_64 : decode cX28_step 64 = .ok (.ireturn, 1) := dc_172 (by decide +kernel)
theorem dX28_step_65 : decode cX28_step 65 = .ok (.aload_n 0, 1) := dc_42 (by decide +kernel)
theorem dX28_step_66 : decode cX28_step 66 = .ok (.iload_n 1, 1) := dc_27 (by decide +kernel)
theorem dX28_step_67 : decode cX28_step 67 = .ok (.invokevirtual 113, 3) := dc_182 (a := 0) (b := 113) (n := 113) (by decide +kernel)
theorem dX28_step_70 : decode cX28_step 70 = .ok (.istore_n 2, 1) := dc_61 (by decide +kernel)
theorem dX28_step_71 : decode cX28_step 71 = .ok (.iload_n 2, 1) := dc_28 (by decide +kernel)
theorem dX28_step_72 : decode cX28_step 72 = .ok (.sipush 10000, 3) := dc_17 (a := 39) (b := 16) (v := 10000) (by decide +kernel)
theorem dX28_step_75 : decode cX28_step 75 = .ok (.if_icmp .ge 19, 3) := dc_162 (a := 0) (b := 19) (v := 19) (by decide +kernel)
theorem dX28_step_78 : decode cX28_step 78 = .ok (.aload_n 0, 1) := dc_42 (by decide +kernel)
theorem dX28_step_79 : decode cX28_step 79 = .ok (.iload_n 1, 1) := dc_27 (by decide +kernel)
theorem dX28_step_80 : decode cX28_step 80 = .ok (.iload_n 2, 1) := dc_28 (by decide +kernel)
theorem dX28_step_81 : decode cX28_step 81 = .ok (.invokevirtual 116, 3) := dc_182 (a := 0) (b := 116) (n := 116) (by decide +kernel)
theorem dX28_step_84 : decode cX28_step 84 = .ok (.ifCond .eq 10, 3) := dc_153 (a := 0) (b := 10) (v := 10) (by decide +kernel)
theorem dX28_step_87 : decode cX28_step 87 = .ok (.aload_n 0, 1) := dc_42 (by decide +kernel)
theorem dX28_step_88 : decode cX28_step 88 = .ok (.iload_n 1, 1) := dc_27 (by decide +kernel)
theorem dX28_step_89 : decode cX28_step 89 = .ok (.invokevirtual 120, 3) := dc_182 (a := 0) (b := 120) (n := 120) (by decide +kernel)
theorem dX28_step_92 : decode cX28_step 92 = .ok (.iconst 1, 1) := dc_4 (by decide +kernel)
theorem dX28_step_93 : decode cX28_step 93 = .ok (.ireturn, 1) := dc_172 (by decide +kernel)
theorem dX28_step_94 : decode cX28_step 94 = .ok (.aload_n 0, 1) := dc_42 (by decide +kernel)
theorem dX28_step_95 : decode cX28_step 95 = .ok (.getfield 12, 3) := dc_180 (a := 0) (b := 12) (n := 12) (by decide +kernel)
theorem dX28_step_98 : decode cX28_step 98 = .ok (.aload_n 0, 1) := dc_42 (by decide +kernel)
theorem dX28_step_99 : decode cX28_step 99 = .ok (.getfield 31, 3) := dc_180 (a := 0) (b := 31) (n := 31) (by decide +kernel)
theorem dX28_step_102 : decode cX28_step 102 = .ok (.iload_n 1, 1) := dc_27 (by decide +kernel)
theorem dX28_step_103 : decode cX28_step 103 = .ok (.aload_n 0, 1) := dc_42 (by decide +kernel)
theorem dX28_step_104 : decode cX28_step 104 = .ok (.getfield 24, 3) := dc_180 (a := 0) (b := 24) (n := 24) (by decide +kernel)
theorem dX28_step_107 : decode cX28_step 107 = .ok (.getfield 63, 3) := dc_180 (a := 0) (b := 63) (n := 63) (by decide +kernel)
theorem dX28_step_110 : decode cX28_step 110 = .ok (.invokevirtual 109, 3) := dc_182 (a := 0) (b := 109) (n := 109) (by decide +kernel)
theorem dX28_step_113 : decode cX28_step 113 = .ok (.aload_n 0, 1) := dc_42 (by decide +kernel)
theorem dX28_step_114 : decode cX28_step 114 = .ok (.dup, 1) := dc_89 (by decide +kernel)
theorem dX28_step_115 : decode cX28_step 115 = .ok (.getfield 102, 3) := dc_180 (a := 0) (b := 102) (n := 102) (by decide +kernel)
theorem dX28_step_118 : decode cX28_step 118 = .ok (.iconst 1, 1) := dc_4 (by decide +kernel)
theorem dX28_step_119 : decode cX28_step 119 = .ok (.iadd, 1) := dc_96 (by decide +kernel)
theorem dX28_step_120 : decode cX28_step 120 = .ok (.putfield 102, 3) := dc_181 (a := 0) (b := 102) (n := 102) (by decide +kernel)
theorem dX28_step_123 : decode cX28_step 123 = .ok (.iconst 0, 1) := dc_3 (by decide +kernel)
theorem dX28_step_124 : decode cX28_step 124 = .ok (.ireturn, 1) := dc_172 (by decide +kernel)
theorem GX28_63 {w : eW} {d : Nat} {Y : eY} {pc : Nat} {ls : eL} {st : List Value} {h : eH} {Q : eO → eH → Prop} {a : Nat} {x : Int32} (hf : g_I 29 h a 3 = some x) (hd : decode Y.2.1 pc = .ok (.getfield 63, 3)) (hY : Y.1.cls = RX28) (kk : wp w d Y (pc + 3) ls (.int x :: st) h Q) : wp w d Y pc ls (.ref a :: st) h Q := x_gIN (ci := 29) (k := 3) hf hd rfl (by decide) (by rw [hY]; exact q1571) kk
def fX28_step_b94 (N : Nat) (l0 : Nat) (l1 : Int32) (h : eH) : Option (Int32 × eH) :=
  (g_A 27 h l0 1).bind fun a1 =>
  (g_A 27 h l0 0).bind fun a3 =>
  (g_A 27 h l0 6).bind fun a5 =>
  (g_I 29 h a5 3).bind fun x7 =>
  (k_ok 28 h a1).bind fun _ =>
  (fX29_add a1 a3 l1 x7 h).bind fun q10 =>
  (g_I 27 q10.2 l0 10).bind fun x11 =>
  (p_V 27 q10.2 l0 10 (.int (x11 + (1 : Int32)))).bind fun h13 =>
  some ((0 : Int32), h13)
theorem pX28_step_b94 {w : eW} {d : Nat} (hd : 4 ≤ d + 1) {N : Nat} {l0 : Nat} {l1 : Int32} {h : eH} {q} (hf : fX28_step_b94 N l0 l1 h = some q) : wp w (d + 1) YX28_step 94 [some (.ref l0), some (.int l1), none] [] h (e_is (e_rn c_I q)) := by
  unfold fX28_step_b94 at hf
  refine w_aload_n dX28_step_94 rfl rfl ?_
  obtain ⟨a1, b2, hf⟩ := Option.bind_eq_some_iff.mp hf
  refine GX28_12 b2 dX28_step_95 rfl ?_
  refine w_aload_n dX28_step_98 rfl rfl ?_
  obtain ⟨a3, b4, hf⟩ := Option.bind_eq_some_iff.mp hf
  refine GX28_31 b4 dX28_step_99 rfl ?_
  refine w_iload_n dX28_step_102 rfl rfl ?_
  refine w_aload_n dX28_step_103 rfl rfl ?_
  obtain ⟨a5, b6, hf⟩ := Option.bind_eq_some_iff.mp hf
  refine GX28_24 b6 dX28_step_104 rfl ?_
  obtain ⟨x7, b8, hf⟩ := Option.bind_eq_some_iff.mp hf
  refine GX28_63 b8 dX28_step_107 rfl ?_
  obtain ⟨_, b9, hf⟩ := Option.bind_eq_some_iff.mp hf
  refine x_cnV hf (e_stV (Yc := YX29_add) (ci := 28) (av := [.ref a3, .int l1, .int x7]) (st := []) dX28_step_110 q3241 mX29_add rfl (k_ok_some b9).1 (k_ok_some b9).2) mX29_add.2.2.1 mX29_add.2.2.2.2.1 (Nat.le_of_ble_eq_true rfl) (Nat.le_of_ble_eq_true rfl) (fun q hq => pX29_add (by omega) hq) (fun q10 hf => ?_)
  refine w_aload_n dX28_step_113 rfl rfl ?_
  refine w_dup dX28_step_114 rfl ?_
  obtain ⟨x11, b12, hf⟩ := Option.bind_eq_some_iff.mp hf
  refine GX28_102 b12 dX28_step_115 rfl ?_
  refine w_iconst dX28_step_118 (v := 1) (by decide) ?_
  refine w_iadd dX28_step_119 ?_
  obtain ⟨h13, b14, hf⟩ := Option.bind_eq_some_iff.mp hf
  refine SX28_102 b14 dX28_step_120 rfl ?_
  refine w_iconst dX28_step_123 (v := 0) (by decide) ?_
  cases hf
  exact w_iret dX28_step_124 rfl rfl rfl
def fX28_step (N : Nat) (this : Nat) (h : eH) : Option (Int32 × eH) :=
  (g_I 27 h this 10).bind fun x1 =>
  (g_A 27 h this 6).bind fun a3 =>
  (g_I 29 h a3 4).bind fun x5 =>
  if ¬ x5 = (-1 : Int32) then
    (k_ok 27 h this).bind fun _ =>
    (fX28_penalty this x1 h).bind fun q9 =>
    if (10000 : Int32) ≤ q9.1 then
      fX28_step_b94 N this x1 q9.2
    else
      (k_ok 27 q9.2 this).bind fun _ =>
      (fX28_ends N this x1 q9.1 q9.2).bind fun q12 =>
      if q12.1 = 0 then
        fX28_step_b94 N this x1 q12.2
      else
        (k_ok 27 q12.2 this).bind fun _ =>
        (fX28_finish N this x1 q12.2).bind fun q15 =>
        some ((1 : Int32), q15.2)
  else
    (g_I 27 h this 10).bind fun x16 =>
    (p_V 27 h this 10 (.int (x16 + (1 : Int32)))).bind fun h18 =>
    (g_A 27 h18 this 0).bind fun a20 =>
    (k_ok 26 h18 a20).bind fun _ =>
    (fX27_kind a20 x1 h18).bind fun q23 =>
    if q23.1 = 0 then
      (k_ok 27 q23.2 this).bind fun _ =>
      (fX28_open N this x1 q23.2).bind fun q26 =>
      (g_A 27 q26.2 this 1).bind fun a27 =>
      (g_A 27 q26.2 this 0).bind fun a29 =>
      (g_A 27 q26.2 this 6).bind fun a31 =>
      (g_I 29 q26.2 a31 3).bind fun x33 =>
      (k_ok 28 q26.2 a27).bind fun _ =>
      (fX29_add a27 a29 x1 x33 q26.2).bind fun q36 =>
      some ((0 : Int32), q36.2)
    else
      some ((0 : Int32), q23.2)
theorem pX28_step {w : eW} {d : Nat} (hd : 4 ≤ d) {N : Nat} {this : Nat} {h : eH} {q} (hf : fX28_step N this h = some q) : wm w d YX28_step [.ref this] h (e_is (e_rn c_I q)) := by
  obtain ⟨d, rfl⟩ : ∃ e, d = e + 1 := ⟨d - 1, by omega⟩
  show wp w (d + 1) YX28_step 0 [some (.ref this), none, none] [] h _
  unfold fX28_step at hf
  refine w_aload_n dX28_step_0 rfl rfl ?_
  obtain ⟨x1, b2, hf⟩ := Option.bind_eq_some_iff.mp hf
  refine GX28_102 b2 dX28_step_1 rfl ?_
  refine w_istore_n dX28_step_4 rfl (by decide) (ls' := [some (.ref this), some (.int x1), none]) rfl ?_
  refine w_aload_n dX28_step_5 rfl rfl ?_
  obtain ⟨a3, b4, hf⟩ := Option.bind_eq_some_iff.mp hf
  refine GX28_24 b4 dX28_step_6 rfl ?_
  obtain ⟨x5, b6, hf⟩ := Option.bind_eq_some_iff.mp hf
  refine GX28_38 b6 dX28_step_9 rfl ?_
  refine w_iconst dX28_step_12 (v := -1) (by decide) ?_
  refine w_icmp_ne 65 dX28_step_13 (by decide) (fun c7 => ?_) (fun c7 => ?_)
  · replace hf := (if_pos (show ¬ x5 = (-1 : Int32) from c7)).symm.trans hf
    refine w_aload_n dX28_step_65 rfl rfl ?_
    refine w_iload_n dX28_step_66 rfl rfl ?_
    obtain ⟨_, b8, hf⟩ := Option.bind_eq_some_iff.mp hf
    refine x_cnI hf (e_stV (Yc := YX28_penalty) (ci := 27) (av := [.int x1]) (st := []) dX28_step_67 q3249 mX28_penalty rfl (k_ok_some b8).1 (k_ok_some b8).2) mX28_penalty.2.2.1 mX28_penalty.2.2.2.2.1 (Nat.le_of_ble_eq_true rfl) (Nat.le_of_ble_eq_true rfl) (fun q hq => pX28_penalty (by omega) hq) (fun q9 hf => ?_)
    refine w_istore_n dX28_step_70 rfl (by decide) (ls' := [some (.ref this), some (.int x1), some (.int q9.1)]) rfl ?_
    refine w_iload_n dX28_step_71 rfl rfl ?_
    refine w_sipush dX28_step_72 (v := 10000) (by decide) ?_
    refine w_icmp_ge 94 dX28_step_75 (by decide) (fun c10 => ?_) (fun c10 => ?_)
    · replace hf := (if_pos (show (10000 : Int32) ≤ q9.1 from c10)).symm.trans hf
      exact (pX28_step_b94 hd hf).to ⟨rfl, rfl, trivial⟩
    · replace hf := (if_neg (show ¬ ((10000 : Int32) ≤ q9.1) from c10)).symm.trans hf
      refine w_aload_n dX28_step_78 rfl rfl ?_
      refine w_iload_n dX28_step_79 rfl rfl ?_
      refine w_iload_n dX28_step_80 rfl rfl ?_
      obtain ⟨_, b11, hf⟩ := Option.bind_eq_some_iff.mp hf
      refine x_cnI hf (e_stV (Yc := YX28_ends) (ci := 27) (av := [.int x1, .int q9.1]) (st := []) dX28_step_81 q3253 mX28_ends rfl (k_ok_some b11).1 (k_ok_some b11).2) mX28_ends.2.2.1 mX28_ends.2.2.2.2.1 (Nat.le_of_ble_eq_true rfl) (Nat.le_of_ble_eq_true rfl) (fun q hq => pX28_ends (by omega) hq) (fun q12 hf => ?_)
      refine w_if_eq 94 dX28_step_84 (by decide) (fun c13 => ?_) (fun c13 => ?_)
      · replace hf := (if_pos (show q12.1 = 0 from c13)).symm.trans hf
        exact (pX28_step_b94 hd hf).to ⟨rfl, rfl, trivial⟩
      · replace hf := (if_neg (show ¬ (q12.1 = 0) from c13)).symm.trans hf
        refine w_aload_n dX28_step_87 rfl rfl ?_
        refine w_iload_n dX28_step_88 rfl rfl ?_
        obtain ⟨_, b14, hf⟩ := Option.bind_eq_some_iff.mp hf
        refine x_cnV hf (e_stV (Yc := YX28_finish) (ci := 27) (av := [.int x1]) (st := []) dX28_step_89 q3284 mX28_finish rfl (k_ok_some b14).1 (k_ok_some b14).2) mX28_finish.2.2.1 mX28_finish.2.2.2.2.1 (Nat.le_of_ble_eq_true rfl) (Nat.le_of_ble_eq_true rfl) (fun q hq => pX28_finish (by omega) hq) (fun q15 hf => ?_)
        refine w_iconst dX28_step_92 (v := 1) (by decide) ?_
        cases hf
        exact w_iret dX28_step_93 rfl rfl rfl
  · replace hf := (if_neg (show ¬ (¬ x5 = (-1 : Int32)) from (fun z => z c7))).symm.trans hf
    refine w_aload_n dX28_step_16 rfl rfl ?_
    refine w_dup dX28_step_17 rfl ?_
    obtain ⟨x16, b17, hf⟩ := Option.bind_eq_some_iff.mp hf
    refine GX28_102 b17 dX28_step_18 rfl ?_
    refine w_iconst dX28_step_21 (v := 1) (by decide) ?_
    refine w_iadd dX28_step_22 ?_
    obtain ⟨h18, b19, hf⟩ := Option.bind_eq_some_iff.mp hf
    refine SX28_102 b19 dX28_step_23 rfl ?_
    refine w_aload_n dX28_step_26 rfl rfl ?_
    obtain ⟨a20, b21, hf⟩ := Option.bind_eq_some_iff.mp hf
    refine GX28_31 b21 dX28_step_27 rfl ?_
    refine w_iload_n dX28_step_30 rfl rfl ?_
    obtain ⟨_, b22, hf⟩ := Option.bind_eq_some_iff.mp hf
    refine x_cnI hf (e_stV (Yc := YX27_kind) (ci := 26) (av := [.int x1]) (st := []) dX28_step_31 q3221 mX27_kind rfl (k_ok_some b22).1 (k_ok_some b22).2) mX27_kind.2.2.1 mX27_kind.2.2.2.2.1 (Nat.le_of_ble_eq_true rfl) (Nat.le_of_ble_eq_true rfl) (fun q hq => pX27_kind (by omega) hq) (fun q23 hf => ?_)
    refine w_if_eq 39 dX28_step_34 (by decide) (fun c24 => ?_) (fun c24 => ?_)
    · replace hf := (if_pos (show q23.1 = 0 from c24)).symm.trans hf
      refine w_aload_n dX28_step_39 rfl rfl ?_
      refine w_iload_n dX28_step_40 rfl rfl ?_
      obtain ⟨_, b25, hf⟩ := Option.bind_eq_some_iff.mp hf
      refine x_cnV hf (e_stV (Yc := YX28_open) (ci := 27) (av := [.int x1]) (st := []) dX28_step_41 q3229 mX28_open rfl (k_ok_some b25).1 (k_ok_some b25).2) mX28_open.2.2.1 mX28_open.2.2.2.2.1 (Nat.le_of_ble_eq_true rfl) (Nat.le_of_ble_eq_true rfl) (fun q hq => pX28_open (by omega) hq) (fun q26 hf => ?_)
      refine w_aload_n dX28_step_44 rfl rfl ?_
      obtain ⟨a27, b28, hf⟩ := Option.bind_eq_some_iff.mp hf
      refine GX28_12 b28 dX28_step_45 rfl ?_
      refine w_aload_n dX28_step_48 rfl rfl ?_
      obtain ⟨a29, b30, hf⟩ := Option.bind_eq_some_iff.mp hf
      refine GX28_31 b30 dX28_step_49 rfl ?_
      refine w_iload_n dX28_step_52 rfl rfl ?_
      refine w_aload_n dX28_step_53 rfl rfl ?_
      obtain ⟨a31, b32, hf⟩ := Option.bind_eq_some_iff.mp hf
      refine GX28_24 b32 dX28_step_54 rfl ?_
      obtain ⟨x33, b34, hf⟩ := Option.bind_eq_some_iff.mp hf
      refine GX28_63 b34 dX28_step_57 rfl ?_
      obtain ⟨_, b35, hf⟩ := Option.bind_eq_some_iff.mp hf
      refine x_cnV hf (e_stV (Yc := YX29_add) (ci := 28) (av := [.ref a29, .int x1, .int x33]) (st := []) dX28_step_60 q3241 mX29_add rfl (k_ok_some b35).1 (k_ok_some b35).2) mX29_add.2.2.1 mX29_add.2.2.2.2.1 (Nat.le_of_ble_eq_true rfl) (Nat.le_of_ble_eq_true rfl) (fun q hq => pX29_add (by omega) hq) (fun q36 hf => ?_)
      refine w_iconst dX28_step_63 (v := 0) (by decide) ?_
      cases hf
      exact w_iret dX28_step_64 rfl rfl rfl
    · replace hf := (if_neg (show ¬ (q23.1 = 0) from c24)).symm.trans hf
      refine w_iconst dX28_step_37 (v := 0) (by decide) ?_
      cases hf
      exact w_iret dX28_step_38 rfl rfl rfl
abbrev cX3_wantFew : ByteArray := prog_26_method_39_code
def yX3_wantFew : MethodName := ⟨RX3, "wantFew", "(LTypeHouse$Page;)V"⟩
def YX3_wantFew : eY := (yX3_wantFew, cX3_wantFew, 5, none, [])
theorem mX3_wantFew : e_mv YX3_wantFew RX3 1 := ⟨q3300, qs127, q3301, by decide, by decide +kernel, (e_sig (by decide +kernel))⟩
theorem dX3_wantFew_0 : decode cX3_wantFew 0 = .ok (.aload_n 1, 1) := dc_43 (by decide +kernel)
theorem dX3_wantFew_1 : decode cX3_wantFew 1 = .ok (.getfield 594, 3) := dc_180 (a := 2) (b := 82) (n := 594) (by decide +kernel)
theorem dX3_wantFew_4 : decode cX3_wantFew 4 = .ok (.aload_n 1, 1) := dc_43 (by decide +kernel)
theorem dX3_wantFew_5 : decode cX3_wantFew 5 = .ok (.getfield 590, 3) := dc_180 (a := 2) (b := 78) (n := 590) (by decide +kernel)
theorem dX3_wantFew_8 : decode cX3_wantFew 8 = .ok (.isub, 1) := dc_100 (by decide +kernel)
theorem dX3_wantFew_9 : decode cX3_wantFew 9 = .ok (.i2l, 1) := dc_133 (by decide +kernel)
theorem dX3_wantFew_10 : decode cX3_wantFew 10 = .ok (.lstore_n 2, 1) := dc_65 (by decide +kernel)
theorem dX3_wantFew_11 : decode cX3_wantFew 11 = .ok (.aload_n 1, 1) := dc_43 (by decide +kernel)
theorem dX3_wantFew_12 : decode cX3_wantFew 12 = .ok (.getfield 590, 3) := dc_180 (a := 2) (b := 78) (n := 590) (by decide +kernel)
theorem dX3_wantFew_15 : decode cX3_wantFew 15 = .ok (.istore 4, 2) := dc_54 (a := 4) (by decide +kernel)
theorem dX3_wantFew_17 : decode cX3_wantFew 17 = .ok (.iload 4, 2) := dc_21 (a := 4) (by decide +kernel)
theorem dX3_wantFew_19 : decode cX3_wantFew 19 = .ok (.aload_n 1, 1) := dc_43 (by decide +kernel)
theorem dX3_wantFew_20 : decode cX3_wantFew 20 = .ok (.getfield 594, 3) := dc_180 (a := 2) (b := 82) (n := 594) (by decide +kernel)
theorem dX3_wantFew_23 : decode cX3_wantFew 23 = .ok (.if_icmp .ge 58, 3) := dc_162 (a := 0) (b := 58) (v := 58) (by decide +kernel)
theorem dX3_wantFew_26 : decode cX3_wantFew 26 = .ok (.aload_n 0, 1) := dc_42 (by decide +kernel)
theorem dX3_wantFew_27 : decode cX3_wantFew 27 = .ok (.getfield 94, 3) := dc_180 (a := 0) (b := 94) (n := 94) (by decide +kernel)
theorem dX3_wantFew_30 : decode cX3_wantFew 30 = .ok (.getfield 597, 3) := dc_180 (a := 2) (b := 85) (n := 597) (by decide +kernel)
theorem dX3_wantFew_33 : decode cX3_wantFew 33 = .ok (.iload 4, 2) := dc_21 (a := 4) (by decide +kernel)
theorem dX3_wantFew_35 : decode cX3_wantFew 35 = .ok (.baload, 1) := dc_51 (by decide +kernel)
theorem dX3_wantFew_36 : decode cX3_wantFew 36 = .ok (.ifCond .ne 39, 3) := dc_154 (a := 0) (b := 39) (v := 39) (by decide +kernel)
theorem dX3_wantFew_39 : decode cX3_wantFew 39 = .ok (.aload_n 0, 1) := dc_42 (by decide +kernel)
theorem dX3_wantFew_40 : decode cX3_wantFew 40 = .ok (.getfield 94, 3) := dc_180 (a := 0) (b := 94) (n := 94) (by decide +kernel)
theorem dX3_wantFew_43 : decode cX3_wantFew 43 = .ok (.getfield 600, 3) := dc_180 (a := 2) (b := 88) (n := 600) (by decide +kernel)
theorem dX3_wantFew_46 : decode cX3_wantFew 46 = .ok (.iload 4, 2) := dc_21 (a := 4) (by decide +kernel)
theorem dX3_wantFew_48 : decode cX3_wantFew 48 = .ok (.iaload, 1) := dc_46 (by decide +kernel)
theorem dX3_wantFew_49 : decode cX3_wantFew 49 = .ok (.iconst (-1), 1) := dc_2 (by decide +kernel)
theorem dX3_wantFew_50 : decode cX3_wantFew 50 = .ok (.if_icmp .eq 25, 3) := dc_159 (a := 0) (b := 25) (v := 25) (by decide +kernel)
theorem dX3_wantFew_53 : decode cX3_wantFew 53 = .ok (.lload_n 2, 1) := dc_32 (by decide +kernel)
theorem dX3_wantFew_54 : decode cX3_wantFew 54 = .ok (.aload_n 0, 1) := dc_42 (by decide +kernel)
theorem dX3_wantFew_55 : decode cX3_wantFew 55 = .ok (.getfield 36, 3) := dc_180 (a := 0) (b := 36) (n := 36) (by decide +kernel)
theorem dX3_wantFew_58 : decode cX3_wantFew 58 = .ok (.aload_n 0, 1) := dc_42 (by decide +kernel)
theorem dX3_wantFew_59 : decode cX3_wantFew 59 = .ok (.getfield 94, 3) := dc_180 (a := 0) (b := 94) (n := 94) (by decide +kernel)
theorem dX3_wantFew_62 : decode cX3_wantFew 62 = .ok (.getfield 600, 3) := dc_180 (a := 2) (b := 88) (n := 600) (by decide +kernel)
theorem dX3_wantFew_65 : decode cX3_wantFew 65 = .ok (.iload 4, 2) := dc_21 (a := 4) (by decide +kernel)
theorem dX3_wantFew_67 : decode cX3_wantFew 67 = .ok (.iaload, 1) := dc_46 (by decide +kernel)
theorem dX3_wantFew_68 : decode cX3_wantFew 68 = .ok (.aaload, 1) := dc_50 (by decide +kernel)
theorem dX3_wantFew_69 : decode cX3_wantFew 69 = .ok (.getfield 606, 3) := dc_180 (a := 2) (b := 94) (n := 606) (by decide +kernel)
theorem dX3_wantFew_72 : decode cX3_wantFew 72 = .ok (.i2l, 1) := dc_133 (by decide +kernel)
theorem dX3_wantFew_73 : decode cX3_wantFew 73 = .ok (.ladd, 1) := dc_97 (by decide +kernel)
theorem dX3_wantFew_74 : decode cX3_wantFew 74 = .ok (.lstore_n 2, 1) := dc_65 (by decide +kernel)
theorem dX3_wantFew_75 : decode cX3_wantFew 75 = .ok (.iinc 4 1, 3) := dc_132 (a := 4) (b := 1) (v := 1) (by decide +kernel)
theorem dX3_wantFew_78 : decode cX3_wantFew 78 = .ok (.goto (-61), 3) := dc_167 (a := 255) (b := 195) (v := -61) (by decide +kernel)
theorem dX3_wantFew_81 : decode cX3_wantFew 81 = .ok (.aload_n 0, 1) := dc_42 (by decide +kernel)
theorem dX3_wantFew_82 : decode cX3_wantFew 82 = .ok (.getfield 14, 3) := dc_180 (a := 0) (b := 14) (n := 14) (by decide +kernel)
theorem dX3_wantFew_85 : decode cX3_wantFew 85 = .ok (.lload_n 2, 1) := dc_32 (by decide +kernel)
theorem dX3_wantFew_86 : decode cX3_wantFew 86 = .ok (.ldc2_w 609, 3) := dc_20 (a := 2) (b := 97) (n := 609) (by decide +kernel)
theorem dX3_wantFew_89 : decode cX3_wantFew 89 = .ok (.lcmp, 1) := dc_148 (by decide +kernel)
theorem dX3_wantFew_90 : decode cX3_wantFew 90 = .ok (.ifCond .gt 7, 3) := dc_157 (a := 0) (b := 7) (v := 7) (by decide +kernel)
theorem dX3_wantFew_93 : decode cX3_wantFew 93 = .ok (.iconst 1, 1) := dc_4 (by decide +kernel)
theorem dX3_wantFew_94 : decode cX3_wantFew 94 = .ok (.goto 4, 3) := dc_167 (a := 0) (b := 4) (v := 4) (by decide +kernel)
theorem dX3_wantFew_97 : decode cX3_wantFew 97 = .ok (.iconst 0, 1) := dc_3 (by decide +kernel)
theorem dX3_wantFew_98 : decode cX3_wantFew 98 = .ok (.bipush 17, 2) := dc_16 (a := 17) (v := 17) (by decide +kernel)
theorem dX3_wantFew_100 : decode cX3_wantFew 100 = .ok (.invokevirtual 289, 3) := dc_182 (a := 1) (b := 33) (n := 289) (by decide +kernel)
theorem dX3_wantFew_103 : decode cX3_wantFew 103 = .ok (.return_, 1) := dc_177 (by decide +kernel)
theorem GX3_590 {w : eW} {d : Nat} {Y : eY} {pc : Nat} {ls : eL} {st : List Value} {h : eH} {Q : eO → eH → Prop} {a : Nat} {x : Int32} (hf : g_I 29 h a 4 = some x) (hd : decode Y.2.1 pc = .ok (.getfield 590, 3)) (hY : Y.1.cls = RX3) (kk : wp w d Y (pc + 3) ls (.int x :: st) h Q) : wp w d Y pc ls (.ref a :: st) h Q := x_gIN (ci := 29) (k := 4) hf hd rfl (by decide) (by rw [hY]; exact q1575) kk
theorem GX3_594 {w : eW} {d : Nat} {Y : eY} {pc : Nat} {ls : eL} {st : List Value} {h : eH} {Q : eO → eH → Prop} {a : Nat} {x : Int32} (hf : g_I 29 h a 5 = some x) (hd : decode Y.2.1 pc = .ok (.getfield 594, 3)) (hY : Y.1.cls = RX3) (kk : wp w d Y (pc + 3) ls (.int x :: st) h Q) : wp w d Y pc ls (.ref a :: st) h Q := x_gIN (ci := 29) (k := 5) hf hd rfl (by decide) (by rw [hY]; exact q1577) kk
theorem GX3_597 {w : eW} {d : Nat} {Y : eY} {pc : Nat} {ls : eL} {st : List Value} {h : eH} {Q : eO → eH → Prop} {a : Nat} {x : Nat} (hf : g_A 26 h a 0 = some x) (hd : decode Y.2.1 pc = .ok (.getfield 597, 3)) (hY : Y.1.cls = RX3) (kk : wp w d Y (pc + 3) ls (.ref x :: st) h Q) : wp w d Y pc ls (.ref a :: st) h Q := x_gAN (ci := 26) (k := 0) hf hd rfl (by decide) (by rw [hY]; exact q1493) kk
theorem GX3_600 {w : eW} {d : Nat} {Y : eY} {pc : Nat} {ls : eL} {st : List Value} {h : eH} {Q : eO → eH → Prop} {a : Nat} {x : Nat} (hf : g_A 26 h a 1 = some x) (hd : decode Y.2.1 pc = .ok (.getfield 600, 3)) (hY : Y.1.cls = RX3) (kk : wp w d Y (pc + 3) ls (.ref x :: st) h Q) : wp w d Y pc ls (.ref a :: st) h Q := x_gAN (ci := 26) (k := 1) hf hd rfl (by decide) (by rw [hY]; exact q1497) kk
theorem GX3_606 {w : eW} {d : Nat} {Y : eY} {pc : Nat} {ls : eL} {st : List Value} {h : eH} {Q : eO → eH → Prop} {a : Nat} {x : Int32} (hf : g_I 41 h a 12 = some x) (hd : decode Y.2.1 pc = .ok (.getfield 606, 3)) (hY : Y.1.cls = RX3) (kk : wp w d Y (pc + 3) ls (.int x :: st) h Q) : wp w d Y pc ls (.ref a :: st) h Q := x_gIN (ci := 41) (k := 12) hf hd rfl (by decide) (by rw [hY]; exact q3542) kk
def fX3_wantFew_b75 (N : Nat) (k17 : Nat → Nat → Int64 → Int32 → eH → Option ((Unit ⊕ Nat) × eH)) (l0 : Nat) (l1 : Nat) (l2 : Int64) (l4 : Int32) (h : eH) : Option ((Unit ⊕ Nat) × eH) :=
  k17 l0 l1 l2 (l4 + (1 : Int32)) h
theorem pX3_wantFew_b75 {w : eW} {d : Nat} (hd : 8 ≤ d + 1) {N : Nat} {k17 : Nat → Nat → Int64 → Int32 → eH → Option ((Unit ⊕ Nat) × eH)} (hk17 : ∀ l0 l1 l2 l4 h q, k17 l0 l1 l2 l4 h = some q → wp w (d + 1) YX3_wantFew 17 [some (.ref l0), some (.ref l1), some (.long l2), none, some (.int l4)] [] h (e_is (e_rt c_V q))) {l0 : Nat} {l1 : Nat} {l2 : Int64} {l4 : Int32} {h : eH} {q} (hf : fX3_wantFew_b75 N k17 l0 l1 l2 l4 h = some q) : wp w (d + 1) YX3_wantFew 75 [some (.ref l0), some (.ref l1), some (.long l2), none, some (.int l4)] [] h (e_is (e_rt c_V q)) := by
  unfold fX3_wantFew_b75 at hf
  refine w_iinc dX3_wantFew_75 (v := (l4 + (1 : Int32))) rfl rfl (by decide) (ls' := [some (.ref l0), some (.ref l1), some (.long l2), none, some (.int (l4 + (1 : Int32)))]) rfl ?_
  refine w_goto 17 dX3_wantFew_78 (by decide) ?_
  exact (hk17 _ _ _ _ _ _ hf).to ⟨rfl, rfl, rfl, rfl, trivial⟩
def fX3_wantFew_b98 (N : Nat) (s0 : Nat) (s1 : Int32) (h : eH) : Option ((Unit ⊕ Nat) × eH) :=
  (k_ok 3 h s0).bind fun _ =>
  t_B (fX4_want s0 s1 (17 : Int32) h) fun x2 h3 =>
  some (.inl (), h3)
theorem pX3_wantFew_b98 {w : eW} {d : Nat} (hd : 8 ≤ d + 1) {N : Nat} {s0 : Nat} {s1 : Int32} {h : eH} {q} (hf : fX3_wantFew_b98 N s0 s1 h = some q) : wp w (d + 1) YX3_wantFew 98 [none, none, none, none, none] [.int s1, .ref s0] h (e_is (e_rt c_V q)) := by
  unfold fX3_wantFew_b98 at hf
  refine w_bipush dX3_wantFew_98 (v := 17) (by decide) ?_
  obtain ⟨_, b1, hf⟩ := Option.bind_eq_some_iff.mp hf
  refine x_ctV hf (e_stV (Yc := YX4_want) (ci := 3) (av := [.int s1, .int (17 : Int32)]) (st := []) dX3_wantFew_100 q2846 mX4_want rfl (k_ok_some b1).1 (k_ok_some b1).2) mX4_want.2.2.1 mX4_want.2.2.2.2.1 (Nat.le_of_ble_eq_true rfl) (Nat.le_of_ble_eq_true rfl) rfl (fun q hq => pX4_want (by omega) hq) (fun x2 h3 hf => ?_)
  cases hf
  exact w_vret dX3_wantFew_103 rfl rfl
def fX3_wantFew_b17 (N : Nat) : Nat → Nat → Nat → Int64 → Int32 → eH → Option ((Unit ⊕ Nat) × eH)
  | 0, _, _, _, _, _ => none
  | n + 1, l0, l1, l2, l4, h =>
    (g_I 29 h l1 5).bind fun x1 =>
    if x1 ≤ l4 then
      (g_A 2 h l0 0).bind fun a4 =>
      if 0 < (lg_cmp l2 (20000 : Int64)) then
        fX3_wantFew_b98 N a4 (0 : Int32) h
      else
        fX3_wantFew_b98 N a4 (1 : Int32) h
    else
      (g_A 2 h l0 12).bind fun a7 =>
      (g_A 26 h a7 0).bind fun a9 =>
      (r_I 102 h a9 l4).bind fun x11 =>
      if ¬ x11 = 0 then
        fX3_wantFew_b75 N (fX3_wantFew_b17 N n) l0 l1 l2 l4 h
      else
        (g_A 2 h l0 12).bind fun a14 =>
        (g_A 26 h a14 1).bind fun a16 =>
        (r_I 100 h a16 l4).bind fun x18 =>
        if x18 = (-1 : Int32) then
          fX3_wantFew_b75 N (fX3_wantFew_b17 N n) l0 l1 l2 l4 h
        else
          (g_A 2 h l0 3).bind fun a21 =>
          (g_A 2 h l0 12).bind fun a23 =>
          (g_A 26 h a23 1).bind fun a25 =>
          (r_I 100 h a25 l4).bind fun x27 =>
          (r_A 104 h a21 x27).bind fun a29 =>
          (g_I 41 h a29 12).bind fun x31 =>
          fX3_wantFew_b75 N (fX3_wantFew_b17 N n) l0 l1 (l2 + (x31).toInt64) l4 h
theorem pX3_wantFew_b17 {w : eW} {d : Nat} (hd : 8 ≤ d + 1) {N : Nat} : ∀ (n : Nat) l0 l1 l2 l4 h q, fX3_wantFew_b17 N n l0 l1 l2 l4 h = some q → wp w (d + 1) YX3_wantFew 17 [some (.ref l0), some (.ref l1), some (.long l2), none, some (.int l4)] [] h (e_is (e_rt c_V q)) := by
  intro n
  induction n with
  | zero => intro l0 l1 l2 l4 h q hf; simp [fX3_wantFew_b17] at hf
  | succ n ih =>
    intro l0 l1 l2 l4 h q hf
    rw [fX3_wantFew_b17] at hf
    refine w_iload dX3_wantFew_17 rfl ?_
    refine w_aload_n dX3_wantFew_19 rfl rfl ?_
    obtain ⟨x1, b2, hf⟩ := Option.bind_eq_some_iff.mp hf
    refine GX3_594 b2 dX3_wantFew_20 rfl ?_
    refine w_icmp_ge 81 dX3_wantFew_23 (by decide) (fun c3 => ?_) (fun c3 => ?_)
    · replace hf := (if_pos (show x1 ≤ l4 from c3)).symm.trans hf
      refine w_aload_n dX3_wantFew_81 rfl rfl ?_
      obtain ⟨a4, b5, hf⟩ := Option.bind_eq_some_iff.mp hf
      refine GX3_14 b5 dX3_wantFew_82 rfl ?_
      refine w_lload_n dX3_wantFew_85 rfl rfl ?_
      refine w_ldc2 dX3_wantFew_86 q3302 ?_
      refine w_lcmp dX3_wantFew_89 ?_
      refine w_if_gt 97 dX3_wantFew_90 (by decide) (fun c6 => ?_) (fun c6 => ?_)
      · replace hf := (if_pos (show 0 < (lg_cmp l2 (20000 : Int64)) from c6)).symm.trans hf
        refine w_iconst dX3_wantFew_97 (v := 0) (by decide) ?_
        exact (pX3_wantFew_b98 hd hf).to trivial
      · replace hf := (if_neg (show ¬ (0 < (lg_cmp l2 (20000 : Int64))) from c6)).symm.trans hf
        refine w_iconst dX3_wantFew_93 (v := 1) (by decide) ?_
        refine w_goto 98 dX3_wantFew_94 (by decide) ?_
        exact (pX3_wantFew_b98 hd hf).to trivial
    · replace hf := (if_neg (show ¬ (x1 ≤ l4) from c3)).symm.trans hf
      refine w_aload_n dX3_wantFew_26 rfl rfl ?_
      obtain ⟨a7, b8, hf⟩ := Option.bind_eq_some_iff.mp hf
      refine GX3_94 b8 dX3_wantFew_27 rfl ?_
      obtain ⟨a9, b10, hf⟩ := Option.bind_eq_some_iff.mp hf
      refine GX3_597 b10 dX3_wantFew_30 rfl ?_
      refine w_iload dX3_wantFew_33 rfl ?_
      obtain ⟨x11, b12, hf⟩ := Option.bind_eq_some_iff.mp hf
      refine x_rB b12 dX3_wantFew_35 ?_
      refine w_if_ne 75 dX3_wantFew_36 (by decide) (fun c13 => ?_) (fun c13 => ?_)
      · replace hf := (if_pos (show ¬ x11 = 0 from c13)).symm.trans hf
        exact (pX3_wantFew_b75 hd ih hf).to ⟨rfl, rfl, rfl, rfl, trivial⟩
      · replace hf := (if_neg (show ¬ (¬ x11 = 0) from (fun z => z c13))).symm.trans hf
        refine w_aload_n dX3_wantFew_39 rfl rfl ?_
        obtain ⟨a14, b15, hf⟩ := Option.bind_eq_some_iff.mp hf
        refine GX3_94 b15 dX3_wantFew_40 rfl ?_
        obtain ⟨a16, b17, hf⟩ := Option.bind_eq_some_iff.mp hf
        refine GX3_600 b17 dX3_wantFew_43 rfl ?_
        refine w_iload dX3_wantFew_46 rfl ?_
        obtain ⟨x18, b19, hf⟩ := Option.bind_eq_some_iff.mp hf
        refine x_rI b19 dX3_wantFew_48 ?_
        refine w_iconst dX3_wantFew_49 (v := -1) (by decide) ?_
        refine w_icmp_eq 75 dX3_wantFew_50 (by decide) (fun c20 => ?_) (fun c20 => ?_)
        · replace hf := (if_pos (show x18 = (-1 : Int32) from c20)).symm.trans hf
          exact (pX3_wantFew_b75 hd ih hf).to ⟨rfl, rfl, rfl, rfl, trivial⟩
        · replace hf := (if_neg (show ¬ (x18 = (-1 : Int32)) from c20)).symm.trans hf
          refine w_lload_n dX3_wantFew_53 rfl rfl ?_
          refine w_aload_n dX3_wantFew_54 rfl rfl ?_
          obtain ⟨a21, b22, hf⟩ := Option.bind_eq_some_iff.mp hf
          refine GX3_36 b22 dX3_wantFew_55 rfl ?_
          refine w_aload_n dX3_wantFew_58 rfl rfl ?_
          obtain ⟨a23, b24, hf⟩ := Option.bind_eq_some_iff.mp hf
          refine GX3_94 b24 dX3_wantFew_59 rfl ?_
          obtain ⟨a25, b26, hf⟩ := Option.bind_eq_some_iff.mp hf
          refine GX3_600 b26 dX3_wantFew_62 rfl ?_
          refine w_iload dX3_wantFew_65 rfl ?_
          obtain ⟨x27, b28, hf⟩ := Option.bind_eq_some_iff.mp hf
          refine x_rI b28 dX3_wantFew_67 ?_
          obtain ⟨a29, b30, hf⟩ := Option.bind_eq_some_iff.mp hf
          refine x_rA (c := 104) (by decide) b30 dX3_wantFew_68 ?_
          obtain ⟨x31, b32, hf⟩ := Option.bind_eq_some_iff.mp hf
          refine GX3_606 b32 dX3_wantFew_69 rfl ?_
          refine w_i2l dX3_wantFew_72 ?_
          refine w_ladd dX3_wantFew_73 ?_
          refine w_lstore_n dX3_wantFew_74 rfl (by decide) (ls' := [some (.ref l0), some (.ref l1), some (.long (l2 + (x31).toInt64)), none, some (.int l4)]) rfl ?_
          exact (pX3_wantFew_b75 hd ih hf).to ⟨rfl, rfl, rfl, rfl, trivial⟩
def fX3_wantFew (N : Nat) (this : Nat) (p0 : Nat) (h : eH) : Option ((Unit ⊕ Nat) × eH) :=
  (g_I 29 h p0 5).bind fun x1 =>
  (g_I 29 h p0 4).bind fun x3 =>
  (g_I 29 h p0 4).bind fun x5 =>
  fX3_wantFew_b17 N N this p0 ((x1 - x3)).toInt64 x5 h
theorem pX3_wantFew {w : eW} {d : Nat} (hd : 8 ≤ d) {N : Nat} {this : Nat} {p0 : Nat} {h : eH} {q} (hf : fX3_wantFew N this p0 h = some q) : wm w d YX3_wantFew [.ref this, .ref p0] h (e_is (e_rt c_V q)) := by
  obtain ⟨d, rfl⟩ : ∃ e, d = e + 1 := ⟨d - 1, by omega⟩
  show wp w (d + 1) YX3_wantFew 0 [some (.ref this), some (.ref p0), none, none, none] [] h _
  unfold fX3_wantFew at hf
  refine w_aload_n dX3_wantFew_0 rfl rfl ?_
  obtain ⟨x1, b2, hf⟩ := Option.bind_eq_some_iff.mp hf
  refine GX3_594 b2 dX3_wantFew_1 rfl ?_
  refine w_aload_n dX3_wantFew_4 rfl rfl ?_
  obtain ⟨x3, b4, hf⟩ := Option.bind_eq_some_iff.mp hf
  refine GX3_590 b4 dX3_wantFew_5 rfl ?_
  refine w_isub dX3_wantFew_8 ?_
  refine w_i2l dX3_wantFew_9 ?_
  refine w_lstore_n dX3_wantFew_10 rfl (by decide) (ls' := [some (.ref this), some (.ref p0), some (.long ((x1 - x3)).toInt64), none, none]) rfl ?_
  refine w_aload_n dX3_wantFew_11 rfl rfl ?_
  obtain ⟨x5, b6, hf⟩ := Option.bind_eq_some_iff.mp hf
  refine GX3_590 b6 dX3_wantFew_12 rfl ?_
  refine w_istore dX3_wantFew_15 (by decide) (ls' := [some (.ref this), some (.ref p0), some (.long ((x1 - x3)).toInt64), none, some (.int x5)]) rfl ?_
  exact (pX3_wantFew_b17 hd N _ _ _ _ _ _ hf).to ⟨rfl, rfl, rfl, rfl, trivial⟩
abbrev cX3_widthOf : ByteArray := prog_26_method_38_code
def yX3_widthOf : MethodName := ⟨RX3, "widthOf", "(LTypeHouse$Page;)I"⟩
def YX3_widthOf : eY := (yX3_widthOf, cX3_widthOf, 7, (Option.some FieldType.int), [])
theorem mX3_widthOf : e_mv YX3_widthOf RX3 1 := ⟨q3309, qs129, q3310, by decide, by decide +kernel, (e_sig (by decide +kernel))⟩
theorem dX3_widthOf_0 : decode cX3_widthOf 0 = .ok (.lconst 0, 1) := dc_9 (by decide +kernel)
theorem dX3_widthOf_1 : decode cX3_widthOf 1 = .ok (.lstore_n 2, 1) := dc_65 (by decide +kernel)
theorem dX3_widthOf_2 : decode cX3_widthOf 2 = .ok (.aload_n 1, 1) := dc_43 (by decide +kernel)
theorem dX3_widthOf_3 : decode cX3_widthOf 3 = .ok (.getfield 590, 3) := dc_180 (a := 2) (b := 78) (n := 590) (by decide +kernel)
theorem dX3_widthOf_6 : decode cX3_widthOf 6 = .ok (.istore 4, 2) := dc_54 (a := 4) (by decide +kernel)
theorem dX3_widthOf_8 : decode cX3_widthOf 8 = .ok (.iload 4, 2) := dc_21 (a := 4) (by decide +kernel)
theorem dX3_widthOf_10 : decode cX3_widthOf 10 = .ok (.aload_n 1, 1) := dc_43 (by decide +kernel)
theorem dX3_widthOf_11 : decode cX3_widthOf 11 = .ok (.getfield 594, 3) := dc_180 (a := 2) (b := 82) (n := 594) (by decide +kernel)
theorem dX3_widthOf_14 : decode cX3_widthOf 14 = .ok (.if_icmp .ge 94, 3) := dc_162 (a := 0) (b := 94) (v := 94) (by decide +kernel)
theorem dX3_widthOf_17 : decode cX3_widthOf 17 = .ok (.aload_n 0, 1) := dc_42 (by decide +kernel)
theorem dX3_widthOf_18 : decode cX3_widthOf 18 = .ok (.getfield 94, 3) := dc_180 (a := 0) (b := 94) (n := 94) (by decide +kernel)
theorem dX3_widthOf_21 : decode cX3_widthOf 21 = .ok (.getfield 597, 3) := dc_180 (a := 2) (b := 85) (n := 597) (by decide +kernel)
theorem dX3_widthOf_24 : decode cX3_widthOf 24 = .ok (.iload 4, 2) := dc_21 (a := 4) (by decide +kernel)
theorem dX3_widthOf_26 : decode cX3_widthOf 26 = .ok (.baload, 1) := dc_51 (by decide +kernel)
theorem dX3_widthOf_27 : decode cX3_widthOf 27 = .ok (.ifCond .eq 6, 3) := dc_153 (a := 0) (b := 6) (v := 6) (by decide +kernel)
theorem dX3_widthOf_30 : decode cX3_widthOf 30 = .ok (.goto 72, 3) := dc_167 (a := 0) (b := 72) (v := 72) (by decide +kernel)
theorem dX3_widthOf_33 : decode cX3_widthOf 33 = .ok (.aload_n 0, 1) := dc_42 (by decide +kernel)
theorem dX3_widthOf_34 : decode cX3_widthOf 34 = .ok (.getfield 94, 3) := dc_180 (a := 0) (b := 94) (n := 94) (by decide +kernel)
theorem dX3_widthOf_37 : decode cX3_widthOf 37 = .ok (.getfield 600, 3) := dc_180 (a := 2) (b := 88) (n := 600) (by decide +kernel)
theorem dX3_widthOf_40 : decode cX3_widthOf 40 = .ok (.iload 4, 2) := dc_21 (a := 4) (by decide +kernel)
theorem dX3_widthOf_42 : decode cX3_widthOf 42 = .ok (.iaload, 1) := dc_46 (by decide +kernel)
theorem dX3_widthOf_43 : decode cX3_widthOf 43 = .ok (.istore 5, 2) := dc_54 (a := 5) (by decide +kernel)
theorem dX3_widthOf_45 : decode cX3_widthOf 45 = .ok (.aload_n 0, 1) := dc_42 (by decide +kernel)
theorem dX3_widthOf_46 : decode cX3_widthOf 46 = .ok (.getfield 94, 3) := dc_180 (a := 0) (b := 94) (n := 94) (by decide +kernel)
theorem dX3_widthOf_49 : decode cX3_widthOf 49 = .ok (.getfield 601, 3) := dc_180 (a := 2) (b := 89) (n := 601) (by decide +kernel)
theorem dX3_widthOf_52 : decode cX3_widthOf 52 = .ok (.iload 4, 2) := dc_21 (a := 4) (by decide +kernel)
theorem dX3_widthOf_54 : decode cX3_widthOf 54 = .ok (.iaload, 1) := dc_46 (by decide +kernel)
theorem dX3_widthOf_55 : decode cX3_widthOf 55 = .ok (.istore 6, 2) := dc_54 (a := 6) (by decide +kernel)
theorem dX3_widthOf_57 : decode cX3_widthOf 57 = .ok (.iload 5, 2) := dc_21 (a := 5) (by decide +kernel)
theorem dX3_widthOf_59 : decode cX3_widthOf 59 = .ok (.iconst (-1), 1) := dc_2 (by decide +kernel)
theorem dX3_widthOf_60 : decode cX3_widthOf 60 = .ok (.if_icmp .eq 26, 3) := dc_159 (a := 0) (b := 26) (v := 26) (by decide +kernel)
theorem dX3_widthOf_63 : decode cX3_widthOf 63 = .ok (.lload_n 2, 1) := dc_32 (by decide +kernel)
theorem dX3_widthOf_64 : decode cX3_widthOf 64 = .ok (.aload_n 0, 1) := dc_42 (by decide +kernel)
theorem dX3_widthOf_65 : decode cX3_widthOf 65 = .ok (.getfield 36, 3) := dc_180 (a := 0) (b := 36) (n := 36) (by decide +kernel)
theorem dX3_widthOf_68 : decode cX3_widthOf 68 = .ok (.iload 5, 2) := dc_21 (a := 5) (by decide +kernel)
theorem dX3_widthOf_70 : decode cX3_widthOf 70 = .ok (.aaload, 1) := dc_50 (by decide +kernel)
theorem dX3_widthOf_71 : decode cX3_widthOf 71 = .ok (.getfield 519, 3) := dc_180 (a := 2) (b := 7) (n := 519) (by decide +kernel)
theorem dX3_widthOf_74 : decode cX3_widthOf 74 = .ok (.i2l, 1) := dc_133 (by decide +kernel)
theorem dX3_widthOf_75 : decode cX3_widthOf 75 = .ok (.iload 6, 2) := dc_21 (a := 6) (by decide +kernel)
theorem dX3_widthOf_77 : decode cX3_widthOf 77 = .ok (.i2l, 1) := dc_133 (by decide +kernel)
theorem dX3_widthOf_78 : decode cX3_widthOf 78 = .ok (.ladd, 1) := dc_97 (by decide +kernel)
theorem dX3_widthOf_79 : decode cX3_widthOf 79 = .ok (.invokestatic 346, 3) := dc_184 (a := 1) (b := 90) (n := 346) (by decide +kernel)
theorem dX3_widthOf_82 : decode cX3_widthOf 82 = .ok (.lstore_n 2, 1) := dc_65 (by decide +kernel)
theorem dX3_widthOf_83 : decode cX3_widthOf 83 = .ok (.goto 19, 3) := dc_167 (a := 0) (b := 19) (v := 19) (by decide +kernel)
theorem dX3_widthOf_86 : decode cX3_widthOf 86 = .ok (.iload 6, 2) := dc_21 (a := 6) (by decide +kernel)
theorem dX3_widthOf_88 : decode cX3_widthOf 88 = .ok (.ldc_w 326, 3) := dc_19 (a := 1) (b := 70) (n := 326) (by decide +kernel)
theorem dX3_widthOf_91 : decode cX3_widthOf 91 = .ok (.if_icmp .eq 11, 3) := dc_159 (a := 0) (b := 11) (v := 11) (by decide +kernel)
theorem dX3_widthOf_94 : decode cX3_widthOf 94 = .ok (.lload_n 2, 1) := dc_32 (by decide +kernel)
theorem dX3_widthOf_95 : decode cX3_widthOf 95 = .ok (.iload 6, 2) := dc_21 (a := 6) (by decide +kernel)
theorem dX3_widthOf_97 : decode cX3_widthOf 97 = .ok (.i2l, 1) := dc_133 (by decide +kernel)
theorem dX3_widthOf_98 : decode cX3_widthOf 98 = .ok (.invokestatic 346, 3) := dc_184 (a := 1) (b := 90) (n := 346) (by decide +kernel)
theorem dX3_widthOf_101 : decode cX3_widthOf 101 = .ok (.lstore_n 2, 1) := dc_65 (by decide +kernel)
theorem dX3_widthOf_102 : decode cX3_widthOf 102 = .ok (.iinc 4 1, 3) := dc_132 (a := 4) (b := 1) (v := 1) (by decide +kernel)
theorem dX3_widthOf_105 : decode cX3_widthOf 105 = .ok (.goto (-97), 3) := dc_167 (a := 255) (b := 159) (v := -97) (by decide +kernel)
theorem dX3_widthOf_108 : decode cX3_widthOf 108 = .ok (.ldc2_w 604, 3) := dc_20 (a := 2) (b := 92) (n := 604) (by decide +kernel)
theorem dX3_widthOf_111 : decode cX3_widthOf 111 = .ok (.lload_n 2, 1) := dc_32 (by decide +kernel)
theorem dX3_widthOf_112 : decode cX3_widthOf 112 = .ok (.invokestatic 340, 3) := dc_184 (a := 1) (b := 84) (n := 340) (by decide +kernel)
theorem dX3_widthOf_115 : decode cX3_widthOf 115 = .ok (.l2i, 1) := dc_136 (by decide +kernel)
theorem dX3_widthOf_116 : decode cX3_widthOf 116 = .ok (.ireturn, 1) := dc_172 (by decide +kernel)
theorem GX3_519 {w : eW} {d : Nat} {Y : eY} {pc : Nat} {ls : eL} {st : List Value} {h : eH} {Q : eO → eH → Prop} {a : Nat} {x : Int32} (hf : g_I 41 h a 3 = some x) (hd : decode Y.2.1 pc = .ok (.getfield 519, 3)) (hY : Y.1.cls = RX3) (kk : wp w d Y (pc + 3) ls (.int x :: st) h Q) : wp w d Y pc ls (.ref a :: st) h Q := x_gIN (ci := 41) (k := 3) hf hd rfl (by decide) (by rw [hY]; exact q3517) kk
theorem GX3_601 {w : eW} {d : Nat} {Y : eY} {pc : Nat} {ls : eL} {st : List Value} {h : eH} {Q : eO → eH → Prop} {a : Nat} {x : Nat} (hf : g_A 26 h a 5 = some x) (hd : decode Y.2.1 pc = .ok (.getfield 601, 3)) (hY : Y.1.cls = RX3) (kk : wp w d Y (pc + 3) ls (.ref x :: st) h Q) : wp w d Y pc ls (.ref a :: st) h Q := x_gAN (ci := 26) (k := 5) hf hd rfl (by decide) (by rw [hY]; exact q1508) kk
def fX3_widthOf_b102 (N : Nat) (k8 : Nat → Nat → Int64 → Int32 → eH → Option (Int32 × eH)) (l0 : Nat) (l1 : Nat) (l2 : Int64) (l4 : Int32) (h : eH) : Option (Int32 × eH) :=
  k8 l0 l1 l2 (l4 + (1 : Int32)) h
theorem pX3_widthOf_b102 {w : eW} {d : Nat} (hd : 1 ≤ d + 1) {N : Nat} {k8 : Nat → Nat → Int64 → Int32 → eH → Option (Int32 × eH)} (hk8 : ∀ l0 l1 l2 l4 h q, k8 l0 l1 l2 l4 h = some q → wp w (d + 1) YX3_widthOf 8 [some (.ref l0), some (.ref l1), some (.long l2), none, some (.int l4), none, none] [] h (e_is (e_rn c_I q))) {l0 : Nat} {l1 : Nat} {l2 : Int64} {l4 : Int32} {h : eH} {q} (hf : fX3_widthOf_b102 N k8 l0 l1 l2 l4 h = some q) : wp w (d + 1) YX3_widthOf 102 [some (.ref l0), some (.ref l1), some (.long l2), none, some (.int l4), none, none] [] h (e_is (e_rn c_I q)) := by
  unfold fX3_widthOf_b102 at hf
  refine w_iinc dX3_widthOf_102 (v := (l4 + (1 : Int32))) rfl rfl (by decide) (ls' := [some (.ref l0), some (.ref l1), some (.long l2), none, some (.int (l4 + (1 : Int32))), none, none]) rfl ?_
  refine w_goto 8 dX3_widthOf_105 (by decide) ?_
  exact (hk8 _ _ _ _ _ _ hf).to ⟨rfl, rfl, rfl, rfl, trivial⟩
def fX3_widthOf_b8 (N : Nat) : Nat → Nat → Nat → Int64 → Int32 → eH → Option (Int32 × eH)
  | 0, _, _, _, _, _ => none
  | n + 1, l0, l1, l2, l4, h =>
    (g_I 29 h l1 5).bind fun x1 =>
    if x1 ≤ l4 then
      some (((m_minJ (2147483647 : Int64) l2)).toInt32, h)
    else
      (g_A 2 h l0 12).bind fun a4 =>
      (g_A 26 h a4 0).bind fun a6 =>
      (r_I 102 h a6 l4).bind fun x8 =>
      if x8 = 0 then
        (g_A 2 h l0 12).bind fun a11 =>
        (g_A 26 h a11 1).bind fun a13 =>
        (r_I 100 h a13 l4).bind fun x15 =>
        (g_A 2 h l0 12).bind fun a17 =>
        (g_A 26 h a17 5).bind fun a19 =>
        (r_I 100 h a19 l4).bind fun x21 =>
        if x15 = (-1 : Int32) then
          if x21 = (-1073741824 : Int32) then
            fX3_widthOf_b102 N (fX3_widthOf_b8 N n) l0 l1 l2 l4 h
          else
            fX3_widthOf_b102 N (fX3_widthOf_b8 N n) l0 l1 (m_maxJ l2 (x21).toInt64) l4 h
        else
          (g_A 2 h l0 3).bind fun a25 =>
          (r_A 104 h a25 x15).bind fun a27 =>
          (g_I 41 h a27 3).bind fun x29 =>
          fX3_widthOf_b102 N (fX3_widthOf_b8 N n) l0 l1 (m_maxJ l2 ((x29).toInt64 + (x21).toInt64)) l4 h
      else
        fX3_widthOf_b102 N (fX3_widthOf_b8 N n) l0 l1 l2 l4 h
theorem pX3_widthOf_b8 {w : eW} {d : Nat} (hd : 1 ≤ d + 1) {N : Nat} : ∀ (n : Nat) l0 l1 l2 l4 h q, fX3_widthOf_b8 N n l0 l1 l2 l4 h = some q → wp w (d + 1) YX3_widthOf 8 [some (.ref l0), some (.ref l1), some (.long l2), none, some (.int l4), none, none] [] h (e_is (e_rn c_I q)) := by
  intro n
  induction n with
  | zero => intro l0 l1 l2 l4 h q hf; simp [fX3_widthOf_b8] at hf
  | succ n ih =>
    intro l0 l1 l2 l4 h q hf
    rw [fX3_widthOf_b8] at hf
    refine w_iload dX3_widthOf_8 rfl ?_
    refine w_aload_n dX3_widthOf_10 rfl rfl ?_
    obtain ⟨x1, b2, hf⟩ := Option.bind_eq_some_iff.mp hf
    refine GX3_594 b2 dX3_widthOf_11 rfl ?_
    refine w_icmp_ge 108 dX3_widthOf_14 (by decide) (fun c3 => ?_) (fun c3 => ?_)
    · replace hf := (if_pos (show x1 ≤ l4 from c3)).symm.trans hf
      refine w_ldc2 dX3_widthOf_108 q3312 ?_
      refine w_lload_n dX3_widthOf_111 rfl rfl ?_
      refine x_minJ dX3_widthOf_112 q3313 q3314 q478 q3315 (Nat.le_of_ble_eq_true rfl) ?_
      refine w_l2i dX3_widthOf_115 ?_
      cases hf
      exact w_iret dX3_widthOf_116 rfl rfl rfl
    · replace hf := (if_neg (show ¬ (x1 ≤ l4) from c3)).symm.trans hf
      refine w_aload_n dX3_widthOf_17 rfl rfl ?_
      obtain ⟨a4, b5, hf⟩ := Option.bind_eq_some_iff.mp hf
      refine GX3_94 b5 dX3_widthOf_18 rfl ?_
      obtain ⟨a6, b7, hf⟩ := Option.bind_eq_some_iff.mp hf
      refine GX3_597 b7 dX3_widthOf_21 rfl ?_
      refine w_iload dX3_widthOf_24 rfl ?_
      obtain ⟨x8, b9, hf⟩ := Option.bind_eq_some_iff.mp hf
      refine x_rB b9 dX3_widthOf_26 ?_
      refine w_if_eq 33 dX3_widthOf_27 (by decide) (fun c10 => ?_) (fun c10 => ?_)
      · replace hf := (if_pos (show x8 = 0 from c10)).symm.trans hf
        refine w_aload_n dX3_widthOf_33 rfl rfl ?_
        obtain ⟨a11, b12, hf⟩ := Option.bind_eq_some_iff.mp hf
        refine GX3_94 b12 dX3_widthOf_34 rfl ?_
        obtain ⟨a13, b14, hf⟩ := Option.bind_eq_some_iff.mp hf
        refine GX3_600 b14 dX3_widthOf_37 rfl ?_
        refine w_iload dX3_widthOf_40 rfl ?_
        obtain ⟨x15, b16, hf⟩ := Option.bind_eq_some_iff.mp hf
        refine x_rI b16 dX3_widthOf_42 ?_
        refine w_istore dX3_widthOf_43 (by decide) (ls' := [some (.ref l0), some (.ref l1), some (.long l2), none, some (.int l4), some (.int x15), none]) rfl ?_
        refine w_aload_n dX3_widthOf_45 rfl rfl ?_
        obtain ⟨a17, b18, hf⟩ := Option.bind_eq_some_iff.mp hf
        refine GX3_94 b18 dX3_widthOf_46 rfl ?_
        obtain ⟨a19, b20, hf⟩ := Option.bind_eq_some_iff.mp hf
        refine GX3_601 b20 dX3_widthOf_49 rfl ?_
        refine w_iload dX3_widthOf_52 rfl ?_
        obtain ⟨x21, b22, hf⟩ := Option.bind_eq_some_iff.mp hf
        refine x_rI b22 dX3_widthOf_54 ?_
        refine w_istore dX3_widthOf_55 (by decide) (ls' := [some (.ref l0), some (.ref l1), some (.long l2), none, some (.int l4), some (.int x15), some (.int x21)]) rfl ?_
        refine w_iload dX3_widthOf_57 rfl ?_
        refine w_iconst dX3_widthOf_59 (v := -1) (by decide) ?_
        refine w_icmp_eq 86 dX3_widthOf_60 (by decide) (fun c23 => ?_) (fun c23 => ?_)
        · replace hf := (if_pos (show x15 = (-1 : Int32) from c23)).symm.trans hf
          refine w_iload dX3_widthOf_86 rfl ?_
          refine w_ldc_w dX3_widthOf_88 q3211 ?_
          refine w_icmp_eq 102 dX3_widthOf_91 (by decide) (fun c24 => ?_) (fun c24 => ?_)
          · replace hf := (if_pos (show x21 = (-1073741824 : Int32) from c24)).symm.trans hf
            exact (pX3_widthOf_b102 hd ih hf).to ⟨rfl, rfl, rfl, rfl, trivial⟩
          · replace hf := (if_neg (show ¬ (x21 = (-1073741824 : Int32)) from c24)).symm.trans hf
            refine w_lload_n dX3_widthOf_94 rfl rfl ?_
            refine w_iload dX3_widthOf_95 rfl ?_
            refine w_i2l dX3_widthOf_97 ?_
            refine x_maxJ dX3_widthOf_98 q3311 q3239 q478 q3240 (Nat.le_of_ble_eq_true rfl) ?_
            refine w_lstore_n dX3_widthOf_101 rfl (by decide) (ls' := [some (.ref l0), some (.ref l1), some (.long (m_maxJ l2 (x21).toInt64)), none, some (.int l4), some (.int x15), some (.int x21)]) rfl ?_
            exact (pX3_widthOf_b102 hd ih hf).to ⟨rfl, rfl, rfl, rfl, trivial⟩
        · replace hf := (if_neg (show ¬ (x15 = (-1 : Int32)) from c23)).symm.trans hf
          refine w_lload_n dX3_widthOf_63 rfl rfl ?_
          refine w_aload_n dX3_widthOf_64 rfl rfl ?_
          obtain ⟨a25, b26, hf⟩ := Option.bind_eq_some_iff.mp hf
          refine GX3_36 b26 dX3_widthOf_65 rfl ?_
          refine w_iload dX3_widthOf_68 rfl ?_
          obtain ⟨a27, b28, hf⟩ := Option.bind_eq_some_iff.mp hf
          refine x_rA (c := 104) (by decide) b28 dX3_widthOf_70 ?_
          obtain ⟨x29, b30, hf⟩ := Option.bind_eq_some_iff.mp hf
          refine GX3_519 b30 dX3_widthOf_71 rfl ?_
          refine w_i2l dX3_widthOf_74 ?_
          refine w_iload dX3_widthOf_75 rfl ?_
          refine w_i2l dX3_widthOf_77 ?_
          refine w_ladd dX3_widthOf_78 ?_
          refine x_maxJ dX3_widthOf_79 q3311 q3239 q478 q3240 (Nat.le_of_ble_eq_true rfl) ?_
          refine w_lstore_n dX3_widthOf_82 rfl (by decide) (ls' := [some (.ref l0), some (.ref l1), some (.long (m_maxJ l2 ((x29).toInt64 + (x21).toInt64))), none, some (.int l4), some (.int x15), some (.int x21)]) rfl ?_
          refine w_goto 102 dX3_widthOf_83 (by decide) ?_
          exact (pX3_widthOf_b102 hd ih hf).to ⟨rfl, rfl, rfl, rfl, trivial⟩
      · replace hf := (if_neg (show ¬ (x8 = 0) from c10)).symm.trans hf
        refine w_goto 102 dX3_widthOf_30 (by decide) ?_
        exact (pX3_widthOf_b102 hd ih hf).to ⟨rfl, rfl, rfl, rfl, trivial⟩
def fX3_widthOf (N : Nat) (this : Nat) (p0 : Nat) (h : eH) : Option (Int32 × eH) :=
  (g_I 29 h p0 4).bind fun x1 =>
  fX3_widthOf_b8 N N this p0 (0 : Int64) x1 h
theorem pX3_widthOf {w : eW} {d : Nat} (hd : 1 ≤ d) {N : Nat} {this : Nat} {p0 : Nat} {h : eH} {q} (hf : fX3_widthOf N this p0 h = some q) : wm w d YX3_widthOf [.ref this, .ref p0] h (e_is (e_rn c_I q)) := by
  obtain ⟨d, rfl⟩ : ∃ e, d = e + 1 := ⟨d - 1, by omega⟩
  show wp w (d + 1) YX3_widthOf 0 [some (.ref this), some (.ref p0), none, none, none, none, none] [] h _
  unfold fX3_widthOf at hf
  refine w_lconst dX3_widthOf_0 (v := 0) (by decide) ?_
  refine w_lstore_n dX3_widthOf_1 rfl (by decide) (ls' := [some (.ref this), some (.ref p0), some (.long (0 : Int64)), none, none, none, none]) rfl ?_
  refine w_aload_n dX3_widthOf_2 rfl rfl ?_
  obtain ⟨x1, b2, hf⟩ := Option.bind_eq_some_iff.mp hf
  refine GX3_590 b2 dX3_widthOf_3 rfl ?_
  refine w_istore dX3_widthOf_6 (by decide) (ls' := [some (.ref this), some (.ref p0), some (.long (0 : Int64)), none, some (.int x1), none, none]) rfl ?_
  exact (pX3_widthOf_b8 hd N _ _ _ _ _ _ hf).to ⟨rfl, rfl, rfl, rfl, trivial⟩
abbrev cX30_nearest : ByteArray := prog_20_method_4_code
def yX30_nearest : MethodName := ⟨RX30, "nearest", "(JJJ)J"⟩
def YX30_nearest : eY := (yX30_nearest, cX30_nearest, 11, (Option.some FieldType.long), [])
theorem mX30_nearest : e_ms YX30_nearest 3 := ⟨q3322, q456, q3323, by decide, by decide +kernel, (e_sig (by decide +kernel))⟩
theorem dX30_nearest_0 : decode cX30_nearest 0 = .ok (.lconst 0, 1) := dc_9 (by decide +kernel)
theorem dX30_nearest_1 : decode cX30_nearest 1 = .ok (.lstore 6, 2) := dc_55 (a := 6) (by decide +kernel)
theorem dX30_nearest_3 : decode cX30_nearest 3 = .ok (.lconst 0, 1) := dc_9 (by decide +kernel)
theorem dX30_nearest_4 : decode cX30_nearest 4 = .ok (.lstore 8, 2) := dc_55 (a := 8) (by decide +kernel)
theorem dX30_nearest_6 : decode cX30_nearest 6 = .ok (.bipush 62, 2) := dc_16 (a := 62) (v := 62) (by decide +kernel)
theorem dX30_nearest_8 : decode cX30_nearest 8 = .ok (.istore 10, 2) := dc_54 (a := 10) (by decide +kernel)
theorem dX30_nearest_10 : decode cX30_nearest 10 = .ok (.iload 10, 2) := dc_21 (a := 10) (by decide +kernel)
theorem dX30_nearest_12 : decode cX30_nearest 12 = .ok (.ifCond .lt 55, 3) := dc_155 (a := 0) (b := 55) (v := 55) (by decide +kernel)
theorem dX30_nearest_15 : decode cX30_nearest 15 = .ok (.ldc2_w 61, 3) := dc_20 (a := 0) (b := 61) (n := 61) (by decide +kernel)
theorem dX30_nearest_18 : decode cX30_nearest 18 = .ok (.lload 8, 2) := dc_22 (a := 8) (by decide +kernel)
theorem dX30_nearest_20 : decode cX30_nearest 20 = .ok (.lmul, 1) := dc_105 (by decide +kernel)
theorem dX30_nearest_21 : decode cX30_nearest 21 = .ok (.lload_n 0, 1) := dc_30 (by decide +kernel)
theorem dX30_nearest_22 : decode cX30_nearest 22 = .ok (.iload 10, 2) := dc_21 (a := 10) (by decide +kernel)
theorem dX30_nearest_24 : decode cX30_nearest 24 = .ok (.lshr, 1) := dc_123 (by decide +kernel)
theorem dX30_nearest_25 : decode cX30_nearest 25 = .ok (.lconst 1, 1) := dc_10 (by decide +kernel)
theorem dX30_nearest_26 : decode cX30_nearest 26 = .ok (.land, 1) := dc_127 (by decide +kernel)
theorem dX30_nearest_27 : decode cX30_nearest 27 = .ok (.lconst 1, 1) := dc_10 (by decide +kernel)
theorem dX30_nearest_28 : decode cX30_nearest 28 = .ok (.lcmp, 1) := dc_148 (by decide +kernel)
theorem dX30_nearest_29 : decode cX30_nearest 29 = .ok (.ifCond .ne 7, 3) := dc_154 (a := 0) (b := 7) (v := 7) (by decide +kernel)
theorem dX30_nearest_32 : decode cX30_nearest 32 = .ok (.lload_n 2, 1) := dc_32 (by decide +kernel)
theorem dX30_nearest_33 : decode cX30_nearest 33 = .ok (.goto 4, 3) := dc_167 (a := 0) (b := 4) (v := 4) (by decide +kernel)
theorem dX30_nearest_36 : decode cX30_nearest 36 = .ok (.lconst 0, 1) := dc_9 (by decide +kernel)
theorem dX30_nearest_37 : decode cX30_nearest 37 = .ok (.ladd, 1) := dc_97 (by decide +kernel)
theorem dX30_nearest_38 : decode cX30_nearest 38 = .ok (.lstore 8, 2) := dc_55 (a := 8) (by decide +kernel)
theorem dX30_nearest_40 : decode cX30_nearest 40 = .ok (.ldc2_w 61, 3) := dc_20 (a := 0) (b := 61) (n := 61) (by decide +kernel)
theorem dX30_nearest_43 : decode cX30_nearest 43 = .ok (.lload 6, 2) := dc_22 (a := 6) (by decide +kernel)
theorem dX30_nearest_45 : decode cX30_nearest 45 = .ok (.lmul, 1) := dc_105 (by decide +kernel)
theorem dX30_nearest_46 : decode cX30_nearest 46 = .ok (.lload 8, 2) := dc_22 (a := 8) (by decide +kernel)
theorem dX30_nearest_48 : decode cX30_nearest 48 = .ok (.lload 4, 2) := dc_22 (a := 4) (by decide +kernel)
theorem dX30_nearest_50 : decode cX30_nearest 50 = .ok (.ldiv, 1) := dc_109 (by decide +kernel)
theorem dX30_nearest_51 : decode cX30_nearest 51 = .ok (.ladd, 1) := dc_97 (by decide +kernel)
theorem dX30_nearest_52 : decode cX30_nearest 52 = .ok (.lstore 6, 2) := dc_55 (a := 6) (by decide +kernel)
theorem dX30_nearest_54 : decode cX30_nearest 54 = .ok (.lload 8, 2) := dc_22 (a := 8) (by decide +kernel)
theorem dX30_nearest_56 : decode cX30_nearest 56 = .ok (.lload 4, 2) := dc_22 (a := 4) (by decide +kernel)
theorem dX30_nearest_58 : decode cX30_nearest 58 = .ok (.lrem, 1) := dc_113 (by decide +kernel)
theorem dX30_nearest_59 : decode cX30_nearest 59 = .ok (.lstore 8, 2) := dc_55 (a := 8) (by decide +kernel)
theorem dX30_nearest_61 : decode cX30_nearest 61 = .ok (.iinc 10 (-1), 3) := dc_132 (a := 10) (b := 255) (v := -1) (by decide +kernel)
theorem dX30_nearest_64 : decode cX30_nearest 64 = .ok (.goto (-54), 3) := dc_167 (a := 255) (b := 202) (v := -54) (by decide +kernel)
theorem dX30_nearest_67 : decode cX30_nearest 67 = .ok (.ldc2_w 61, 3) := dc_20 (a := 0) (b := 61) (n := 61) (by decide +kernel)
theorem dX30_nearest_70 : decode cX30_nearest 70 = .ok (.lload 8, 2) := dc_22 (a := 8) (by decide +kernel)
theorem dX30_nearest_72 : decode cX30_nearest 72 = .ok (.lmul, 1) := dc_105 (by decide +kernel)
theorem dX30_nearest_73 : decode cX30_nearest 73 = .ok (.lload 4, 2) := dc_22 (a := 4) (by decide +kernel)
theorem dX30_nearest_75 : decode cX30_nearest 75 = .ok (.lcmp, 1) := dc_148 (by decide +kernel)
theorem dX30_nearest_76 : decode cX30_nearest 76 = .ok (.ifCond .lt 10, 3) := dc_155 (a := 0) (b := 10) (v := 10) (by decide +kernel)
theorem dX30_nearest_79 : decode cX30_nearest 79 = .ok (.lload 6, 2) := dc_22 (a := 6) (by decide +kernel)
theorem dX30_nearest_81 : decode cX30_nearest 81 = .ok (.lconst 1, 1) := dc_10 (by decide +kernel)
theorem dX30_nearest_82 : decode cX30_nearest 82 = .ok (.ladd, 1) := dc_97 (by decide +kernel)
theorem dX30_nearest_83 : decode cX30_nearest 83 = .ok (.goto 5, 3) := dc_167 (a := 0) (b := 5) (v := 5) (by decide +kernel)
theorem dX30_nearest_86 : decode cX30_nearest 86 = .ok (.lload 6, 2) := dc_22 (a := 6) (by decide +kernel)
theorem dX30_nearest_88 : decode cX30_nearest 88 = .ok (.lreturn, 1) := dc_173 (by decide +kernel)
def fX30_nearest_b37 (N : Nat) (k10 : Int64 → Int64 → Int64 → Int64 → Int64 → Int32 → eH → Option (Int64 × eH)) (l0 : Int64) (l2 : Int64) (l4 : Int64) (l6 : Int64) (l10 : Int32) (s0 : Int64) (s1 : Int64) (h : eH) : Option (Int64 × eH) :=
  if l4 = 0 then none else
  if l4 = 0 then none else
  k10 l0 l2 l4 (((2 : Int64) * l6) + ((s0 + s1) / l4)) ((s0 + s1) - (s0 + s1) / l4 * l4) (l10 + (-1 : Int32)) h
theorem pX30_nearest_b37 {w : eW} {d : Nat} (hd : 0 ≤ d) {N : Nat} {k10 : Int64 → Int64 → Int64 → Int64 → Int64 → Int32 → eH → Option (Int64 × eH)} (hk10 : ∀ l0 l2 l4 l6 l8 l10 h q, k10 l0 l2 l4 l6 l8 l10 h = some q → wp w d YX30_nearest 10 [some (.long l0), none, some (.long l2), none, some (.long l4), none, some (.long l6), none, some (.long l8), none, some (.int l10)] [] h (e_is (e_rn c_J q))) {l0 : Int64} {l2 : Int64} {l4 : Int64} {l6 : Int64} {l10 : Int32} {s0 : Int64} {s1 : Int64} {h : eH} {q} (hf : fX30_nearest_b37 N k10 l0 l2 l4 l6 l10 s0 s1 h = some q) : wp w d YX30_nearest 37 [some (.long l0), none, some (.long l2), none, some (.long l4), none, some (.long l6), none, none, none, some (.int l10)] [.long s1, .long s0] h (e_is (e_rn c_J q)) := by
  unfold fX30_nearest_b37 at hf
  refine w_ladd dX30_nearest_37 ?_
  refine w_lstore dX30_nearest_38 (by decide) (ls' := [some (.long l0), none, some (.long l2), none, some (.long l4), none, some (.long l6), none, some (.long (s0 + s1)), none, some (.int l10)]) rfl ?_
  refine w_ldc2 dX30_nearest_40 q3324 ?_
  refine w_lload dX30_nearest_43 rfl ?_
  refine w_lmul dX30_nearest_45 ?_
  refine w_lload dX30_nearest_46 rfl ?_
  refine w_lload dX30_nearest_48 rfl ?_
  by_cases c1 : l4 = 0
  · exact absurd ((if_pos c1).symm.trans hf) (by simp)
  replace hf := (if_neg c1).symm.trans hf
  refine w_ldiv dX30_nearest_50 c1 ?_
  refine w_ladd dX30_nearest_51 ?_
  refine w_lstore dX30_nearest_52 (by decide) (ls' := [some (.long l0), none, some (.long l2), none, some (.long l4), none, some (.long (((2 : Int64) * l6) + ((s0 + s1) / l4))), none, some (.long (s0 + s1)), none, some (.int l10)]) rfl ?_
  refine w_lload dX30_nearest_54 rfl ?_
  refine w_lload dX30_nearest_56 rfl ?_
  by_cases c2 : l4 = 0
  · exact absurd ((if_pos c2).symm.trans hf) (by simp)
  replace hf := (if_neg c2).symm.trans hf
  refine w_lrem dX30_nearest_58 c2 ?_
  refine w_lstore dX30_nearest_59 (by decide) (ls' := [some (.long l0), none, some (.long l2), none, some (.long l4), none, some (.long (((2 : Int64) * l6) + ((s0 + s1) / l4))), none, some (.long ((s0 + s1) - (s0 + s1) / l4 * l4)), none, some (.int l10)]) rfl ?_
  refine w_iinc dX30_nearest_61 (v := (l10 + (-1 : Int32))) rfl rfl (by decide) (ls' := [some (.long l0), none, some (.long l2), none, some (.long l4), none, some (.long (((2 : Int64) * l6) + ((s0 + s1) / l4))), none, some (.long ((s0 + s1) - (s0 + s1) / l4 * l4)), none, some (.int (l10 + (-1 : Int32)))]) rfl ?_
  refine w_goto 10 dX30_nearest_64 (by decide) ?_
  exact (hk10 _ _ _ _ _ _ _ _ hf).to ⟨rfl, rfl, rfl, rfl, rfl, rfl, trivial⟩
def fX30_nearest_b88 (N : Nat) (s0 : Int64) (h : eH) : Option (Int64 × eH) :=
  some (s0, h)
theorem pX30_nearest_b88 {w : eW} {d : Nat} (hd : 0 ≤ d) {N : Nat} {s0 : Int64} {h : eH} {q} (hf : fX30_nearest_b88 N s0 h = some q) : wp w d YX30_nearest 88 [none, none, none, none, none, none, none, none, none, none, none] [.long s0] h (e_is (e_rn c_J q)) := by
  unfold fX30_nearest_b88 at hf
  cases hf
  exact w_lret dX30_nearest_88 rfl rfl
def fX30_nearest_b10 (N : Nat) : Nat → Int64 → Int64 → Int64 → Int64 → Int64 → Int32 → eH → Option (Int64 × eH)
  | 0, _, _, _, _, _, _, _ => none
  | n + 1, l0, l2, l4, l6, l8, l10, h =>
    if l10 < 0 then
      if (lg_cmp ((2 : Int64) * l8) l4) < 0 then
        fX30_nearest_b88 N l6 h
      else
        fX30_nearest_b88 N (l6 + (1 : Int64)) h
    else
      if ¬ (lg_cmp ((l0 >>> ((l10).toInt64 &&& 63)) &&& (1 : Int64)) (1 : Int64)) = 0 then
        fX30_nearest_b37 N (fX30_nearest_b10 N n) l0 l2 l4 l6 l10 ((2 : Int64) * l8) (0 : Int64) h
      else
        fX30_nearest_b37 N (fX30_nearest_b10 N n) l0 l2 l4 l6 l10 ((2 : Int64) * l8) l2 h
theorem pX30_nearest_b10 {w : eW} {d : Nat} (hd : 0 ≤ d) {N : Nat} : ∀ (n : Nat) l0 l2 l4 l6 l8 l10 h q, fX30_nearest_b10 N n l0 l2 l4 l6 l8 l10 h = some q → wp w d YX30_nearest 10 [some (.long l0), none, some (.long l2), none, some (.long l4), none, some (.long l6), none, some (.long l8), none, some (.int l10)] [] h (e_is (e_rn c_J q)) := by
  intro n
  induction n with
  | zero => intro l0 l2 l4 l6 l8 l10 h q hf; simp [fX30_nearest_b10] at hf
  | succ n ih =>
    intro l0 l2 l4 l6 l8 l10 h q hf
    rw [fX30_nearest_b10] at hf
    refine w_iload dX30_nearest_10 rfl ?_
    refine w_if_lt 67 dX30_nearest_12 (by decide) (fun c1 => ?_) (fun c1 => ?_)
    · replace hf := (if_pos (show l10 < 0 from c1)).symm.trans hf
      refine w_ldc2 dX30_nearest_67 q3324 ?_
      refine w_lload dX30_nearest_70 rfl ?_
      refine w_lmul dX30_nearest_72 ?_
      refine w_lload dX30_nearest_73 rfl ?_
      refine w_lcmp dX30_nearest_75 ?_
      refine w_if_lt 86 dX30_nearest_76 (by decide) (fun c2 => ?_) (fun c2 => ?_)
      · replace hf := (if_pos (show (lg_cmp ((2 : Int64) * l8) l4) < 0 from c2)).symm.trans hf
        refine w_lload dX30_nearest_86 rfl ?_
        exact (pX30_nearest_b88 hd hf).to trivial
      · replace hf := (if_neg (show ¬ ((lg_cmp ((2 : Int64) * l8) l4) < 0) from c2)).symm.trans hf
        refine w_lload dX30_nearest_79 rfl ?_
        refine w_lconst dX30_nearest_81 (v := 1) (by decide) ?_
        refine w_ladd dX30_nearest_82 ?_
        refine w_goto 88 dX30_nearest_83 (by decide) ?_
        exact (pX30_nearest_b88 hd hf).to trivial
    · replace hf := (if_neg (show ¬ (l10 < 0) from c1)).symm.trans hf
      refine w_ldc2 dX30_nearest_15 q3324 ?_
      refine w_lload dX30_nearest_18 rfl ?_
      refine w_lmul dX30_nearest_20 ?_
      refine w_lload_n dX30_nearest_21 rfl rfl ?_
      refine w_iload dX30_nearest_22 rfl ?_
      refine w_lshr dX30_nearest_24 ?_
      refine w_lconst dX30_nearest_25 (v := 1) (by decide) ?_
      refine w_land dX30_nearest_26 ?_
      refine w_lconst dX30_nearest_27 (v := 1) (by decide) ?_
      refine w_lcmp dX30_nearest_28 ?_
      refine w_if_ne 36 dX30_nearest_29 (by decide) (fun c3 => ?_) (fun c3 => ?_)
      · replace hf := (if_pos (show ¬ (lg_cmp ((l0 >>> ((l10).toInt64 &&& 63)) &&& (1 : Int64)) (1 : Int64)) = 0 from c3)).symm.trans hf
        refine w_lconst dX30_nearest_36 (v := 0) (by decide) ?_
        exact (pX30_nearest_b37 hd ih hf).to ⟨rfl, rfl, rfl, rfl, rfl, trivial⟩
      · replace hf := (if_neg (show ¬ (¬ (lg_cmp ((l0 >>> ((l10).toInt64 &&& 63)) &&& (1 : Int64)) (1 : Int64)) = 0) from (fun z => z c3))).symm.trans hf
        refine w_lload_n dX30_nearest_32 rfl rfl ?_
        refine w_goto 37 dX30_nearest_33 (by decide) ?_
        exact (pX30_nearest_b37 hd ih hf).to ⟨rfl, rfl, rfl, rfl, rfl, trivial⟩
def fX30_nearest (N : Nat) (p0 : Int64) (p1 : Int64) (p2 : Int64) (h : eH) : Option (Int64 × eH) :=
  fX30_nearest_b10 N N p0 p1 p2 (0 : Int64) (0 : Int64) (62 : Int32) h
theorem pX30_nearest {w : eW} {d : Nat} (hd : 0 ≤ d) {N : Nat} {p0 : Int64} {p1 : Int64} {p2 : Int64} {h : eH} {q} (hf : fX30_nearest N p0 p1 p2 h = some q) : wm w d YX30_nearest [.long p0, .long p1, .long p2] h (e_is (e_rn c_J q)) := by
  show wp w d YX30_nearest 0 [some (.long p0), none, some (.long p1), none, some (.long p2), none, none, none, none, none, none] [] h _
  unfold fX30_nearest at hf
  refine w_lconst dX30_nearest_0 (v := 0) (by decide) ?_
  refine w_lstore dX30_nearest_1 (by decide) (ls' := [some (.long p0), none, some (.long p1), none, some (.long p2), none, some (.long (0 : Int64)), none, none, none, none]) rfl ?_
  refine w_lconst dX30_nearest_3 (v := 0) (by decide) ?_
  refine w_lstore dX30_nearest_4 (by decide) (ls' := [some (.long p0), none, some (.long p1), none, some (.long p2), none, some (.long (0 : Int64)), none, some (.long (0 : Int64)), none, none]) rfl ?_
  refine w_bipush dX30_nearest_6 (v := 62) (by decide) ?_
  refine w_istore dX30_nearest_8 (by decide) (ls' := [some (.long p0), none, some (.long p1), none, some (.long p2), none, some (.long (0 : Int64)), none, some (.long (0 : Int64)), none, some (.int (62 : Int32))]) rfl ?_
  exact (pX30_nearest_b10 hd N _ _ _ _ _ _ _ _ hf).to ⟨rfl, rfl, rfl, rfl, rfl, rfl, trivial⟩
abbrev cX30_share : ByteArray := prog_20_method_5_code
def yX30_share : MethodName := ⟨RX30, "share", "(LTypeHouse$Sums;)J"⟩
def YX30_share : eY := (yX30_share, cX30_share, 2, (Option.some FieldType.long), [])
theorem mX30_share : e_mv YX30_share RX30 1 := ⟨q3318, q3319, q3320, by decide, by decide +kernel, (e_sig (by decide +kernel))⟩
theorem dX30_share_0 : decode cX30_share 0 = .ok (.aload_n 0, 1) := dc_42 (by decide +kernel)
theorem dX30_share_1 : decode cX30_share 1 = .ok (.getfield 46, 3) := dc_180 (a := 0) (b := 46) (n := 46) (by decide +kernel)
theorem dX30_share_4 : decode cX30_share 4 = .ok (.lconst 0, 1) := dc_9 (by decide +kernel)
theorem dX30_share_5 : decode cX30_share 5 = .ok (.lcmp, 1) := dc_148 (by decide +kernel)
theorem dX30_share_6 : decode cX30_share 6 = .ok (.ifCond .ne 5, 3) := dc_154 (a := 0) (b := 5) (v := 5) (by decide +kernel)
theorem dX30_share_9 : decode cX30_share 9 = .ok (.lconst 0, 1) := dc_9 (by decide +kernel)
theorem dX30_share_10 : decode cX30_share 10 = .ok (.lreturn, 1) := dc_173 (by decide +kernel)
theorem dX30_share_11 : decode cX30_share 11 = .ok (.aload_n 0, 1) := dc_42 (by decide +kernel)
theorem dX30_share_12 : decode cX30_share 12 = .ok (.getfield 24, 3) := dc_180 (a := 0) (b := 24) (n := 24) (by decide +kernel)
theorem dX30_share_15 : decode cX30_share 15 = .ok (.lconst 0, 1) := dc_9 (by decide +kernel)
theorem dX30_share_16 : decode cX30_share 16 = .ok (.lcmp, 1) := dc_148 (by decide +kernel)
theorem dX30_share_17 : decode cX30_share 17 = .ok (.ifCond .le 24, 3) := dc_158 (a := 0) (b := 24) (v := 24) (by decide +kernel)
theorem dX30_share_20 : decode cX30_share 20 = .ok (.aload_n 0, 1) := dc_42 (by decide +kernel)
theorem dX30_share_21 : decode cX30_share 21 = .ok (.getfield 24, 3) := dc_180 (a := 0) (b := 24) (n := 24) (by decide +kernel)
theorem dX30_share_24 : decode cX30_share 24 = .ok (.aload_n 1, 1) := dc_43 (by decide +kernel)
theorem dX30_share_25 : decode cX30_share 25 = .ok (.getfield 39, 3) := dc_180 (a := 0) (b := 39) (n := 39) (by decide +kernel)
theorem dX30_share_28 : decode cX30_share 28 = .ok (.aload_n 0, 1) := dc_42 (by decide +kernel)
theorem dX30_share_29 : decode cX30_share 29 = .ok (.getfield 37, 3) := dc_180 (a := 0) (b := 37) (n := 37) (by decide +kernel)
theorem dX30_share_32 : decode cX30_share 32 = .ok (.laload, 1) := dc_47 (by decide +kernel)
theorem dX30_share_33 : decode cX30_share 33 = .ok (.aload_n 0, 1) := dc_42 (by decide +kernel)
theorem dX30_share_34 : decode cX30_share 34 = .ok (.getfield 46, 3) := dc_180 (a := 0) (b := 46) (n := 46) (by decide +kernel)
theorem dX30_share_37 : decode cX30_share 37 = .ok (.invokestatic 63, 3) := dc_184 (a := 0) (b := 63) (n := 63) (by decide +kernel)
theorem dX30_share_40 : decode cX30_share 40 = .ok (.lreturn, 1) := dc_173 (by decide +kernel)
theorem dX30_share_41 : decode cX30_share 41 = .ok (.aload_n 0, 1) := dc_42 (by decide +kernel)
theorem dX30_share_42 : decode cX30_share 42 = .ok (.getfield 24, 3) := dc_180 (a := 0) (b := 24) (n := 24) (by decide +kernel)
theorem dX30_share_45 : decode cX30_share 45 = .ok (.lneg, 1) := dc_117 (by decide +kernel)
theorem dX30_share_46 : decode cX30_share 46 = .ok (.aload_n 0, 1) := dc_42 (by decide +kernel)
theorem dX30_share_47 : decode cX30_share 47 = .ok (.getfield 46, 3) := dc_180 (a := 0) (b := 46) (n := 46) (by decide +kernel)
theorem dX30_share_50 : decode cX30_share 50 = .ok (.invokestatic 67, 3) := dc_184 (a := 0) (b := 67) (n := 67) (by decide +kernel)
theorem dX30_share_53 : decode cX30_share 53 = .ok (.aload_n 1, 1) := dc_43 (by decide +kernel)
theorem dX30_share_54 : decode cX30_share 54 = .ok (.getfield 43, 3) := dc_180 (a := 0) (b := 43) (n := 43) (by decide +kernel)
theorem dX30_share_57 : decode cX30_share 57 = .ok (.aload_n 0, 1) := dc_42 (by decide +kernel)
theorem dX30_share_58 : decode cX30_share 58 = .ok (.getfield 46, 3) := dc_180 (a := 0) (b := 46) (n := 46) (by decide +kernel)
theorem dX30_share_61 : decode cX30_share 61 = .ok (.invokestatic 63, 3) := dc_184 (a := 0) (b := 63) (n := 63) (by decide +kernel)
theorem dX30_share_64 : decode cX30_share 64 = .ok (.lneg, 1) := dc_117 (by decide +kernel)
theorem dX30_share_65 : decode cX30_share 65 = .ok (.lreturn, 1) := dc_173 (by decide +kernel)
theorem GX30_46 {w : eW} {d : Nat} {Y : eY} {pc : Nat} {ls : eL} {st : List Value} {h : eH} {Q : eO → eH → Prop} {a : Nat} {x : Int64} (hf : g_J 29 h a 11 = some x) (hd : decode Y.2.1 pc = .ok (.getfield 46, 3)) (hY : Y.1.cls = RX30) (kk : wp w d Y (pc + 3) ls (.long x :: st) h Q) : wp w d Y pc ls (.ref a :: st) h Q := x_gJ (ci := 29) (k := 11) hf hd rfl (by decide) (by rw [hY]; exact q1583) kk
def fX30_share (N : Nat) (this : Nat) (p0 : Nat) (h : eH) : Option (Int64 × eH) :=
  (g_J 29 h this 11).bind fun x1 =>
  if ¬ (lg_cmp x1 (0 : Int64)) = 0 then
    (g_J 29 h this 9).bind fun x4 =>
    if (lg_cmp x4 (0 : Int64)) ≤ 0 then
      (g_J 29 h this 9).bind fun x7 =>
      (g_J 29 h this 11).bind fun x9 =>
      (g_J 28 h p0 1).bind fun x11 =>
      (g_J 29 h this 11).bind fun x13 =>
      (fX30_nearest N (m_minJ (-x7) x9) x11 x13 h).bind fun q15 =>
      some ((-q15.1), q15.2)
    else
      (g_J 29 h this 9).bind fun x16 =>
      (g_A 28 h p0 0).bind fun a18 =>
      (g_I 29 h this 10).bind fun x20 =>
      (r_J h a18 x20).bind fun x22 =>
      (g_J 29 h this 11).bind fun x24 =>
      (fX30_nearest N x16 x22 x24 h).bind fun q26 =>
      some (q26.1, q26.2)
  else
    some ((0 : Int64), h)
theorem pX30_share {w : eW} {d : Nat} (hd : 1 ≤ d) {N : Nat} {this : Nat} {p0 : Nat} {h : eH} {q} (hf : fX30_share N this p0 h = some q) : wm w d YX30_share [.ref this, .ref p0] h (e_is (e_rn c_J q)) := by
  obtain ⟨d, rfl⟩ : ∃ e, d = e + 1 := ⟨d - 1, by omega⟩
  show wp w (d + 1) YX30_share 0 [some (.ref this), some (.ref p0)] [] h _
  unfold fX30_share at hf
  refine w_aload_n dX30_share_0 rfl rfl ?_
  obtain ⟨x1, b2, hf⟩ := Option.bind_eq_some_iff.mp hf
  refine GX30_46 b2 dX30_share_1 rfl ?_
  refine w_lconst dX30_share_4 (v := 0) (by decide) ?_
  refine w_lcmp dX30_share_5 ?_
  refine w_if_ne 11 dX30_share_6 (by decide) (fun c3 => ?_) (fun c3 => ?_)
  · replace hf := (if_pos (show ¬ (lg_cmp x1 (0 : Int64)) = 0 from c3)).symm.trans hf
    refine w_aload_n dX30_share_11 rfl rfl ?_
    obtain ⟨x4, b5, hf⟩ := Option.bind_eq_some_iff.mp hf
    refine GX30_24 b5 dX30_share_12 rfl ?_
    refine w_lconst dX30_share_15 (v := 0) (by decide) ?_
    refine w_lcmp dX30_share_16 ?_
    refine w_if_le 41 dX30_share_17 (by decide) (fun c6 => ?_) (fun c6 => ?_)
    · replace hf := (if_pos (show (lg_cmp x4 (0 : Int64)) ≤ 0 from c6)).symm.trans hf
      refine w_aload_n dX30_share_41 rfl rfl ?_
      obtain ⟨x7, b8, hf⟩ := Option.bind_eq_some_iff.mp hf
      refine GX30_24 b8 dX30_share_42 rfl ?_
      refine w_lneg dX30_share_45 ?_
      refine w_aload_n dX30_share_46 rfl rfl ?_
      obtain ⟨x9, b10, hf⟩ := Option.bind_eq_some_iff.mp hf
      refine GX30_46 b10 dX30_share_47 rfl ?_
      refine x_minJ dX30_share_50 q3325 q3314 q478 q3315 (Nat.le_of_ble_eq_true rfl) ?_
      refine w_aload_n dX30_share_53 rfl rfl ?_
      obtain ⟨x11, b12, hf⟩ := Option.bind_eq_some_iff.mp hf
      refine GX30_43 b12 dX30_share_54 rfl ?_
      refine w_aload_n dX30_share_57 rfl rfl ?_
      obtain ⟨x13, b14, hf⟩ := Option.bind_eq_some_iff.mp hf
      refine GX30_46 b14 dX30_share_58 rfl ?_
      refine x_cnJ hf (e_stS (Yc := YX30_nearest) (av := [.long (m_minJ (-x7) x9), .long x11, .long x13]) (st := []) dX30_share_61 q3321 mX30_nearest) mX30_nearest.2.2.1 mX30_nearest.2.2.2.2.1 (Nat.le_of_ble_eq_true rfl) (Nat.le_of_ble_eq_true rfl) (fun q hq => pX30_nearest (by omega) hq) (fun q15 hf => ?_)
      refine w_lneg dX30_share_64 ?_
      cases hf
      exact w_lret dX30_share_65 rfl rfl
    · replace hf := (if_neg (show ¬ ((lg_cmp x4 (0 : Int64)) ≤ 0) from c6)).symm.trans hf
      refine w_aload_n dX30_share_20 rfl rfl ?_
      obtain ⟨x16, b17, hf⟩ := Option.bind_eq_some_iff.mp hf
      refine GX30_24 b17 dX30_share_21 rfl ?_
      refine w_aload_n dX30_share_24 rfl rfl ?_
      obtain ⟨a18, b19, hf⟩ := Option.bind_eq_some_iff.mp hf
      refine GX30_39 b19 dX30_share_25 rfl ?_
      refine w_aload_n dX30_share_28 rfl rfl ?_
      obtain ⟨x20, b21, hf⟩ := Option.bind_eq_some_iff.mp hf
      refine GX30_37 b21 dX30_share_29 rfl ?_
      obtain ⟨x22, b23, hf⟩ := Option.bind_eq_some_iff.mp hf
      refine x_rJ b23 dX30_share_32 ?_
      refine w_aload_n dX30_share_33 rfl rfl ?_
      obtain ⟨x24, b25, hf⟩ := Option.bind_eq_some_iff.mp hf
      refine GX30_46 b25 dX30_share_34 rfl ?_
      refine x_cnJ hf (e_stS (Yc := YX30_nearest) (av := [.long x16, .long x22, .long x24]) (st := []) dX30_share_37 q3321 mX30_nearest) mX30_nearest.2.2.1 mX30_nearest.2.2.2.2.1 (Nat.le_of_ble_eq_true rfl) (Nat.le_of_ble_eq_true rfl) (fun q hq => pX30_nearest (by omega) hq) (fun q26 hf => ?_)
      cases hf
      exact w_lret dX30_share_40 rfl rfl
  · replace hf := (if_neg (show ¬ (¬ (lg_cmp x1 (0 : Int64)) = 0) from (fun z => z c3))).symm.trans hf
    refine w_lconst dX30_share_9 (v := 0) (by decide) ?_
    cases hf
    exact w_lret dX30_share_10 rfl rfl
abbrev cX20_enter : ByteArray := prog_11_method_2_code
def yX20_enter : MethodName := ⟨RX20, "enter", "(LTypeHouse$Box;JJ)V"⟩
def YX20_enter : eY := (yX20_enter, cX20_enter, 6, none, [])
theorem mX20_enter : e_mv YX20_enter RX20 3 := ⟨q3332, qs130, q3333, by decide, by decide +kernel, (e_sig (by decide +kernel))⟩
theorem dX20_enter_0 : decode cX20_enter 0 = .ok (.aload_n 0, 1) := dc_42 (by decide +kernel)
theorem dX20_enter_1 : decode cX20_enter 1 = .ok (.getfield 17, 3) := dc_180 (a := 0) (b := 17) (n := 17) (by decide +kernel)
theorem dX20_enter_4 : decode cX20_enter 4 = .ok (.aload_n 0, 1) := dc_42 (by decide +kernel)
theorem dX20_enter_5 : decode cX20_enter 5 = .ok (.getfield 38, 3) := dc_180 (a := 0) (b := 38) (n := 38) (by decide +kernel)
theorem dX20_enter_8 : decode cX20_enter 8 = .ok (.aload_n 1, 1) := dc_43 (by decide +kernel)
theorem dX20_enter_9 : decode cX20_enter 9 = .ok (.aastore, 1) := dc_83 (by decide +kernel)
theorem dX20_enter_10 : decode cX20_enter 10 = .ok (.aload_n 0, 1) := dc_42 (by decide +kernel)
theorem dX20_enter_11 : decode cX20_enter 11 = .ok (.getfield 21, 3) := dc_180 (a := 0) (b := 21) (n := 21) (by decide +kernel)
theorem dX20_enter_14 : decode cX20_enter 14 = .ok (.aload_n 0, 1) := dc_42 (by decide +kernel)
theorem dX20_enter_15 : decode cX20_enter 15 = .ok (.getfield 38, 3) := dc_180 (a := 0) (b := 38) (n := 38) (by decide +kernel)
theorem dX20_enter_18 : decode cX20_enter 18 = .ok (.lload_n 2, 1) := dc_32 (by decide +kernel)
theorem dX20_enter_19 : decode cX20_enter 19 = .ok (.lastore, 1) := dc_80 (by decide +kernel)
theorem dX20_enter_20 : decode cX20_enter 20 = .ok (.aload_n 0, 1) := dc_42 (by decide +kernel)
theorem dX20_enter_21 : decode cX20_enter 21 = .ok (.getfield 24, 3) := dc_180 (a := 0) (b := 24) (n := 24) (by decide +kernel)
theorem dX20_enter_24 : decode cX20_enter 24 = .ok (.aload_n 0, 1) := dc_42 (by decide +kernel)
theorem dX20_enter_25 : decode cX20_enter 25 = .ok (.getfield 38, 3) := dc_180 (a := 0) (b := 38) (n := 38) (by decide +kernel)
theorem dX20_enter_28 : decode cX20_enter 28 = .ok (.lload 4, 2) := dc_22 (a := 4) (by decide +kernel)
theorem dX20_enter_30 : decode cX20_enter 30 = .ok (.lastore, 1) := dc_80 (by decide +kernel)
theorem dX20_enter_31 : decode cX20_enter 31 = .ok (.aload_n 0, 1) := dc_42 (by decide +kernel)
theorem dX20_enter_32 : decode cX20_enter 32 = .ok (.getfield 27, 3) := dc_180 (a := 0) (b := 27) (n := 27) (by decide +kernel)
theorem dX20_enter_35 : decode cX20_enter 35 = .ok (.aload_n 0, 1) := dc_42 (by decide +kernel)
theorem dX20_enter_36 : decode cX20_enter 36 = .ok (.getfield 38, 3) := dc_180 (a := 0) (b := 38) (n := 38) (by decide +kernel)
theorem dX20_enter_39 : decode cX20_enter 39 = .ok (.aload_n 1, 1) := dc_43 (by decide +kernel)
theorem dX20_enter_40 : decode cX20_enter 40 = .ok (.getfield 42, 3) := dc_180 (a := 0) (b := 42) (n := 42) (by decide +kernel)
theorem dX20_enter_43 : decode cX20_enter 43 = .ok (.iastore, 1) := dc_79 (by decide +kernel)
theorem dX20_enter_44 : decode cX20_enter 44 = .ok (.aload_n 0, 1) := dc_42 (by decide +kernel)
theorem dX20_enter_45 : decode cX20_enter 45 = .ok (.dup, 1) := dc_89 (by decide +kernel)
theorem dX20_enter_46 : decode cX20_enter 46 = .ok (.getfield 38, 3) := dc_180 (a := 0) (b := 38) (n := 38) (by decide +kernel)
theorem dX20_enter_49 : decode cX20_enter 49 = .ok (.iconst 1, 1) := dc_4 (by decide +kernel)
theorem dX20_enter_50 : decode cX20_enter 50 = .ok (.iadd, 1) := dc_96 (by decide +kernel)
theorem dX20_enter_51 : decode cX20_enter 51 = .ok (.putfield 38, 3) := dc_181 (a := 0) (b := 38) (n := 38) (by decide +kernel)
theorem dX20_enter_54 : decode cX20_enter 54 = .ok (.return_, 1) := dc_177 (by decide +kernel)
theorem GX20_17 {w : eW} {d : Nat} {Y : eY} {pc : Nat} {ls : eL} {st : List Value} {h : eH} {Q : eO → eH → Prop} {a : Nat} {x : Nat} (hf : g_A 19 h a 4 = some x) (hd : decode Y.2.1 pc = .ok (.getfield 17, 3)) (hY : Y.1.cls = RX20) (kk : wp w d Y (pc + 3) ls (.ref x :: st) h Q) : wp w d Y pc ls (.ref a :: st) h Q := x_gA (ci := 19) (k := 4) hf hd rfl (by decide) (by rw [hY]; exact q1207) kk
theorem GX20_21 {w : eW} {d : Nat} {Y : eY} {pc : Nat} {ls : eL} {st : List Value} {h : eH} {Q : eO → eH → Prop} {a : Nat} {x : Nat} (hf : g_A 19 h a 5 = some x) (hd : decode Y.2.1 pc = .ok (.getfield 21, 3)) (hY : Y.1.cls = RX20) (kk : wp w d Y (pc + 3) ls (.ref x :: st) h Q) : wp w d Y pc ls (.ref a :: st) h Q := x_gA (ci := 19) (k := 5) hf hd rfl (by decide) (by rw [hY]; exact q1208) kk
theorem GX20_24 {w : eW} {d : Nat} {Y : eY} {pc : Nat} {ls : eL} {st : List Value} {h : eH} {Q : eO → eH → Prop} {a : Nat} {x : Nat} (hf : g_A 19 h a 6 = some x) (hd : decode Y.2.1 pc = .ok (.getfield 24, 3)) (hY : Y.1.cls = RX20) (kk : wp w d Y (pc + 3) ls (.ref x :: st) h Q) : wp w d Y pc ls (.ref a :: st) h Q := x_gA (ci := 19) (k := 6) hf hd rfl (by decide) (by rw [hY]; exact q1209) kk
theorem GX20_27 {w : eW} {d : Nat} {Y : eY} {pc : Nat} {ls : eL} {st : List Value} {h : eH} {Q : eO → eH → Prop} {a : Nat} {x : Nat} (hf : g_A 19 h a 7 = some x) (hd : decode Y.2.1 pc = .ok (.getfield 27, 3)) (hY : Y.1.cls = RX20) (kk : wp w d Y (pc + 3) ls (.ref x :: st) h Q) : wp w d Y pc ls (.ref a :: st) h Q := x_gA (ci := 19) (k := 7) hf hd rfl (by decide) (by rw [hY]; exact q1210) kk
theorem GX20_38 {w : eW} {d : Nat} {Y : eY} {pc : Nat} {ls : eL} {st : List Value} {h : eH} {Q : eO → eH → Prop} {a : Nat} {x : Int32} (hf : g_I 19 h a 8 = some x) (hd : decode Y.2.1 pc = .ok (.getfield 38, 3)) (hY : Y.1.cls = RX20) (kk : wp w d Y (pc + 3) ls (.int x :: st) h Q) : wp w d Y pc ls (.ref a :: st) h Q := x_gI (ci := 19) (k := 8) hf hd rfl (by decide) (by rw [hY]; exact q1211) kk
theorem GX20_42 {w : eW} {d : Nat} {Y : eY} {pc : Nat} {ls : eL} {st : List Value} {h : eH} {Q : eO → eH → Prop} {a : Nat} {x : Int32} (hf : g_I 41 h a 0 = some x) (hd : decode Y.2.1 pc = .ok (.getfield 42, 3)) (hY : Y.1.cls = RX20) (kk : wp w d Y (pc + 3) ls (.int x :: st) h Q) : wp w d Y pc ls (.ref a :: st) h Q := x_gIN (ci := 41) (k := 0) hf hd rfl (by decide) (by rw [hY]; exact q3503) kk
theorem SX20_38 {w : eW} {d : Nat} {Y : eY} {pc : Nat} {ls : eL} {st : List Value} {h : eH} {Q : eO → eH → Prop} {a : Nat} {h' : eH} {x : Int32} (hf : p_V 19 h a 8 (.int x) = some h') (hd : decode Y.2.1 pc = .ok (.putfield 38, 3)) (hY : Y.1.cls = RX20) (kk : wp w d Y (pc + 3) ls st h' Q) : wp w d Y pc ls (.int x :: .ref a :: st) h Q := x_pI (ci := 19) (k := 8) hf hd rfl (by decide) (by rw [hY]; exact q1211) rfl rfl kk
def fX20_enter (this : Nat) (p0 : Nat) (p1 : Int64) (p2 : Int64) (h : eH) : Option (Unit × eH) :=
  (g_A 19 h this 4).bind fun a1 =>
  (g_I 19 h this 8).bind fun x3 =>
  (q_A 104 41 h a1 x3 p0).bind fun h5 =>
  (g_A 19 h5 this 5).bind fun a7 =>
  (g_I 19 h5 this 8).bind fun x9 =>
  (q_V 101 h5 a7 x9 (.long p1)).bind fun h11 =>
  (g_A 19 h11 this 6).bind fun a13 =>
  (g_I 19 h11 this 8).bind fun x15 =>
  (q_V 101 h11 a13 x15 (.long p2)).bind fun h17 =>
  (g_A 19 h17 this 7).bind fun a19 =>
  (g_I 19 h17 this 8).bind fun x21 =>
  (g_I 41 h17 p0 0).bind fun x23 =>
  (q_V 100 h17 a19 x21 (.int x23)).bind fun h25 =>
  (g_I 19 h25 this 8).bind fun x27 =>
  (p_V 19 h25 this 8 (.int (x27 + (1 : Int32)))).bind fun h29 =>
  some ((), h29)
theorem pX20_enter {w : eW} {d : Nat} (hd : 0 ≤ d) {this : Nat} {p0 : Nat} {p1 : Int64} {p2 : Int64} {h : eH} {q} (hf : fX20_enter this p0 p1 p2 h = some q) : wm w d YX20_enter [.ref this, .ref p0, .long p1, .long p2] h (e_is (e_rn c_V q)) := by
  show wp w d YX20_enter 0 [some (.ref this), some (.ref p0), some (.long p1), none, some (.long p2), none] [] h _
  unfold fX20_enter at hf
  refine w_aload_n dX20_enter_0 rfl rfl ?_
  obtain ⟨a1, b2, hf⟩ := Option.bind_eq_some_iff.mp hf
  refine GX20_17 b2 dX20_enter_1 rfl ?_
  refine w_aload_n dX20_enter_4 rfl rfl ?_
  obtain ⟨x3, b4, hf⟩ := Option.bind_eq_some_iff.mp hf
  refine GX20_38 b4 dX20_enter_5 rfl ?_
  refine w_aload_n dX20_enter_8 rfl rfl ?_
  obtain ⟨h5, b6, hf⟩ := Option.bind_eq_some_iff.mp hf
  refine x_qA (c := 104) (cb := 41) (by decide) rfl rfl b6 dX20_enter_9 ?_
  refine w_aload_n dX20_enter_10 rfl rfl ?_
  obtain ⟨a7, b8, hf⟩ := Option.bind_eq_some_iff.mp hf
  refine GX20_21 b8 dX20_enter_11 rfl ?_
  refine w_aload_n dX20_enter_14 rfl rfl ?_
  obtain ⟨x9, b10, hf⟩ := Option.bind_eq_some_iff.mp hf
  refine GX20_38 b10 dX20_enter_15 rfl ?_
  refine w_lload_n dX20_enter_18 rfl rfl ?_
  obtain ⟨h11, b12, hf⟩ := Option.bind_eq_some_iff.mp hf
  refine x_qJ b12 dX20_enter_19 ?_
  refine w_aload_n dX20_enter_20 rfl rfl ?_
  obtain ⟨a13, b14, hf⟩ := Option.bind_eq_some_iff.mp hf
  refine GX20_24 b14 dX20_enter_21 rfl ?_
  refine w_aload_n dX20_enter_24 rfl rfl ?_
  obtain ⟨x15, b16, hf⟩ := Option.bind_eq_some_iff.mp hf
  refine GX20_38 b16 dX20_enter_25 rfl ?_
  refine w_lload dX20_enter_28 rfl ?_
  obtain ⟨h17, b18, hf⟩ := Option.bind_eq_some_iff.mp hf
  refine x_qJ b18 dX20_enter_30 ?_
  refine w_aload_n dX20_enter_31 rfl rfl ?_
  obtain ⟨a19, b20, hf⟩ := Option.bind_eq_some_iff.mp hf
  refine GX20_27 b20 dX20_enter_32 rfl ?_
  refine w_aload_n dX20_enter_35 rfl rfl ?_
  obtain ⟨x21, b22, hf⟩ := Option.bind_eq_some_iff.mp hf
  refine GX20_38 b22 dX20_enter_36 rfl ?_
  refine w_aload_n dX20_enter_39 rfl rfl ?_
  obtain ⟨x23, b24, hf⟩ := Option.bind_eq_some_iff.mp hf
  refine GX20_42 b24 dX20_enter_40 rfl ?_
  obtain ⟨h25, b26, hf⟩ := Option.bind_eq_some_iff.mp hf
  refine x_qI b26 dX20_enter_43 ?_
  refine w_aload_n dX20_enter_44 rfl rfl ?_
  refine w_dup dX20_enter_45 rfl ?_
  obtain ⟨x27, b28, hf⟩ := Option.bind_eq_some_iff.mp hf
  refine GX20_38 b28 dX20_enter_46 rfl ?_
  refine w_iconst dX20_enter_49 (v := 1) (by decide) ?_
  refine w_iadd dX20_enter_50 ?_
  obtain ⟨h29, b30, hf⟩ := Option.bind_eq_some_iff.mp hf
  refine SX20_38 b30 dX20_enter_51 rfl ?_
  cases hf
  exact w_vret dX20_enter_54 rfl rfl
abbrev cX7_kind : ByteArray := prog_25_method_4_code
def yX7_kind : MethodName := ⟨RX7, "kind", "(I)I"⟩
def YX7_kind : eY := (yX7_kind, cX7_kind, 2, (Option.some FieldType.int), [])
theorem mX7_kind : e_mv YX7_kind RX7 1 := ⟨q3339, q3340, q3341, by decide, by decide +kernel, (e_sig (by decide +kernel))⟩
theorem dX7_kind_0 : decode cX7_kind 0 = .ok (.aload_n 0, 1) := dc_42 (by decide +kernel)
theorem dX7_kind_1 : decode cX7_kind 1 = .ok (.getfield 9, 3) := dc_180 (a := 0) (b := 9) (n := 9) (by decide +kernel)
theorem dX7_kind_4 : decode cX7_kind 4 = .ok (.iload_n 1, 1) := dc_27 (by decide +kernel)
theorem dX7_kind_5 : decode cX7_kind 5 = .ok (.baload, 1) := dc_51 (by decide +kernel)
theorem dX7_kind_6 : decode cX7_kind 6 = .ok (.ireturn, 1) := dc_172 (by decide +kernel)
theorem GX7_9 {w : eW} {d : Nat} {Y : eY} {pc : Nat} {ls : eL} {st : List Value} {h : eH} {Q : eO → eH → Prop} {a : Nat} {x : Nat} (hf : g_A 6 h a 0 = some x) (hd : decode Y.2.1 pc = .ok (.getfield 9, 3)) (hY : Y.1.cls = RX7) (kk : wp w d Y (pc + 3) ls (.ref x :: st) h Q) : wp w d Y pc ls (.ref a :: st) h Q := x_gA (ci := 6) (k := 0) hf hd rfl (by decide) (by rw [hY]; exact q620) kk
def fX7_kind (this : Nat) (p0 : Int32) (h : eH) : Option (Int32 × eH) :=
  (g_A 6 h this 0).bind fun a1 =>
  (r_I 102 h a1 p0).bind fun x3 =>
  some (x3, h)
theorem pX7_kind {w : eW} {d : Nat} (hd : 0 ≤ d) {this : Nat} {p0 : Int32} {h : eH} {q} (hf : fX7_kind this p0 h = some q) : wm w d YX7_kind [.ref this, .int p0] h (e_is (e_rn c_I q)) := by
  show wp w d YX7_kind 0 [some (.ref this), some (.int p0)] [] h _
  unfold fX7_kind at hf
  refine w_aload_n dX7_kind_0 rfl rfl ?_
  obtain ⟨a1, b2, hf⟩ := Option.bind_eq_some_iff.mp hf
  refine GX7_9 b2 dX7_kind_1 rfl ?_
  refine w_iload_n dX7_kind_4 rfl rfl ?_
  obtain ⟨x3, b4, hf⟩ := Option.bind_eq_some_iff.mp hf
  refine x_rB b4 dX7_kind_5 ?_
  cases hf
  exact w_iret dX7_kind_6 rfl rfl rfl
abbrev cX7_of : ByteArray := prog_25_method_5_code
def yX7_of : MethodName := ⟨RX7, "of", "(II)I"⟩
def YX7_of : eY := (yX7_of, cX7_of, 3, (Option.some FieldType.int), [])
theorem mX7_of : e_mv YX7_of RX7 2 := ⟨q3343, q3344, q3345, by decide, by decide +kernel, (e_sig (by decide +kernel))⟩
theorem dX7_of_0 : decode cX7_of 0 = .ok (.aload_n 0, 1) := dc_42 (by decide +kernel)
theorem dX7_of_1 : decode cX7_of 1 = .ok (.getfield 15, 3) := dc_180 (a := 0) (b := 15) (n := 15) (by decide +kernel)
theorem dX7_of_4 : decode cX7_of 4 = .ok (.iconst 5, 1) := dc_8 (by decide +kernel)
theorem dX7_of_5 : decode cX7_of 5 = .ok (.iload_n 1, 1) := dc_27 (by decide +kernel)
theorem dX7_of_6 : decode cX7_of 6 = .ok (.imul, 1) := dc_104 (by decide +kernel)
theorem dX7_of_7 : decode cX7_of 7 = .ok (.iload_n 2, 1) := dc_28 (by decide +kernel)
theorem dX7_of_8 : decode cX7_of 8 = .ok (.iadd, 1) := dc_96 (by decide +kernel)
theorem dX7_of_9 : decode cX7_of 9 = .ok (.iaload, 1) := dc_46 (by decide +kernel)
theorem dX7_of_10 : decode cX7_of 10 = .ok (.ireturn, 1) := dc_172 (by decide +kernel)
theorem GX7_15 {w : eW} {d : Nat} {Y : eY} {pc : Nat} {ls : eL} {st : List Value} {h : eH} {Q : eO → eH → Prop} {a : Nat} {x : Nat} (hf : g_A 6 h a 1 = some x) (hd : decode Y.2.1 pc = .ok (.getfield 15, 3)) (hY : Y.1.cls = RX7) (kk : wp w d Y (pc + 3) ls (.ref x :: st) h Q) : wp w d Y pc ls (.ref a :: st) h Q := x_gA (ci := 6) (k := 1) hf hd rfl (by decide) (by rw [hY]; exact q621) kk
def fX7_of (this : Nat) (p0 : Int32) (p1 : Int32) (h : eH) : Option (Int32 × eH) :=
  (g_A 6 h this 1).bind fun a1 =>
  (r_I 100 h a1 (((5 : Int32) * p0) + p1)).bind fun x3 =>
  some (x3, h)
theorem pX7_of {w : eW} {d : Nat} (hd : 0 ≤ d) {this : Nat} {p0 : Int32} {p1 : Int32} {h : eH} {q} (hf : fX7_of this p0 p1 h = some q) : wm w d YX7_of [.ref this, .int p0, .int p1] h (e_is (e_rn c_I q)) := by
  show wp w d YX7_of 0 [some (.ref this), some (.int p0), some (.int p1)] [] h _
  unfold fX7_of at hf
  refine w_aload_n dX7_of_0 rfl rfl ?_
  obtain ⟨a1, b2, hf⟩ := Option.bind_eq_some_iff.mp hf
  refine GX7_15 b2 dX7_of_1 rfl ?_
  refine w_iconst dX7_of_4 (v := 5) (by decide) ?_
  refine w_iload_n dX7_of_5 rfl rfl ?_
  refine w_imul dX7_of_6 ?_
  refine w_iload_n dX7_of_7 rfl rfl ?_
  refine w_iadd dX7_of_8 ?_
  obtain ⟨x3, b4, hf⟩ := Option.bind_eq_some_iff.mp hf
  refine x_rI b4 dX7_of_9 ?_
  cases hf
  exact w_iret dX7_of_10 rfl rfl rfl
abbrev cX20_mark : ByteArray := prog_11_method_3_code
def yX20_mark : MethodName := ⟨RX20, "mark", "(IJJIII)Z"⟩
def YX20_mark : eY := (yX20_mark, cX20_mark, 10, (Option.some FieldType.boolean), [])
theorem mX20_mark : e_mv YX20_mark RX20 6 := ⟨q3348, qs132, q3349, by decide, by decide +kernel, (e_sig (by decide +kernel))⟩
theorem dX20_mark_0 : decode cX20_mark 0 = .ok (.aload_n 0, 1) := dc_42 (by decide +kernel)
theorem dX20_mark_1 : decode cX20_mark 1 = .ok (.getfield 45, 3) := dc_180 (a := 0) (b := 45) (n := 45) (by decide +kernel)
theorem dX20_mark_4 : decode cX20_mark 4 = .ok (.sipush 3000, 3) := dc_17 (a := 11) (b := 184) (v := 3000) (by decide +kernel)
theorem dX20_mark_7 : decode cX20_mark 7 = .ok (.if_icmp .ne 5, 3) := dc_160 (a := 0) (b := 5) (v := 5) (by decide +kernel)
theorem dX20_mark_10 : decode cX20_mark 10 = .ok (.iconst 0, 1) := dc_3 (by decide +kernel)
theorem dX20_mark_11 : decode cX20_mark 11 = .ok (.ireturn, 1) := dc_172 (by decide +kernel)
theorem dX20_mark_12 : decode cX20_mark 12 = .ok (.bipush 6, 2) := dc_16 (a := 6) (v := 6) (by decide +kernel)
theorem dX20_mark_14 : decode cX20_mark 14 = .ok (.aload_n 0, 1) := dc_42 (by decide +kernel)
theorem dX20_mark_15 : decode cX20_mark 15 = .ok (.dup, 1) := dc_89 (by decide +kernel)
theorem dX20_mark_16 : decode cX20_mark 16 = .ok (.getfield 45, 3) := dc_180 (a := 0) (b := 45) (n := 45) (by decide +kernel)
theorem dX20_mark_19 : decode cX20_mark 19 = .ok (.dup_x1, 1) := dc_90 (by decide +kernel)
theorem dX20_mark_20 : decode cX20_mark 20 = .ok (.iconst 1, 1) := dc_4 (by decide +kernel)
theorem dX20_mark_21 : decode cX20_mark 21 = .ok (.iadd, 1) := dc_96 (by decide +kernel)
theorem dX20_mark_22 : decode cX20_mark 22 = .ok (.putfield 45, 3) := dc_181 (a := 0) (b := 45) (n := 45) (by decide +kernel)
theorem dX20_mark_25 : decode cX20_mark 25 = .ok (.imul, 1) := dc_104 (by decide +kernel)
theorem dX20_mark_26 : decode cX20_mark 26 = .ok (.istore 9, 2) := dc_54 (a := 9) (by decide +kernel)
theorem dX20_mark_28 : decode cX20_mark 28 = .ok (.aload_n 0, 1) := dc_42 (by decide +kernel)
theorem dX20_mark_29 : decode cX20_mark 29 = .ok (.getfield 11, 3) := dc_180 (a := 0) (b := 11) (n := 11) (by decide +kernel)
theorem dX20_mark_32 : decode cX20_mark 32 = .ok (.iload 9, 2) := dc_21 (a := 9) (by decide +kernel)
theorem dX20_mark_34 : decode cX20_mark 34 = .ok (.iload_n 1, 1) := dc_27 (by decide +kernel)
theorem dX20_mark_35 : decode cX20_mark 35 = .ok (.i2l, 1) := dc_133 (by decide +kernel)
theorem dX20_mark_36 : decode cX20_mark 36 = .ok (.lastore, 1) := dc_80 (by decide +kernel)
theorem dX20_mark_37 : decode cX20_mark 37 = .ok (.aload_n 0, 1) := dc_42 (by decide +kernel)
theorem dX20_mark_38 : decode cX20_mark 38 = .ok (.getfield 11, 3) := dc_180 (a := 0) (b := 11) (n := 11) (by decide +kernel)
theorem dX20_mark_41 : decode cX20_mark 41 = .ok (.iload 9, 2) := dc_21 (a := 9) (by decide +kernel)
theorem dX20_mark_43 : decode cX20_mark 43 = .ok (.iconst 1, 1) := dc_4 (by decide +kernel)
theorem dX20_mark_44 : decode cX20_mark 44 = .ok (.iadd, 1) := dc_96 (by decide +kernel)
theorem dX20_mark_45 : decode cX20_mark 45 = .ok (.lload_n 2, 1) := dc_32 (by decide +kernel)
theorem dX20_mark_46 : decode cX20_mark 46 = .ok (.lastore, 1) := dc_80 (by decide +kernel)
theorem dX20_mark_47 : decode cX20_mark 47 = .ok (.aload_n 0, 1) := dc_42 (by decide +kernel)
theorem dX20_mark_48 : decode cX20_mark 48 = .ok (.getfield 11, 3) := dc_180 (a := 0) (b := 11) (n := 11) (by decide +kernel)
theorem dX20_mark_51 : decode cX20_mark 51 = .ok (.iload 9, 2) := dc_21 (a := 9) (by decide +kernel)
theorem dX20_mark_53 : decode cX20_mark 53 = .ok (.iconst 2, 1) := dc_5 (by decide +kernel)
theorem dX20_mark_54 : decode cX20_mark 54 = .ok (.iadd, 1) := dc_96 (by decide +kernel)
theorem dX20_mark_55 : decode cX20_mark 55 = .ok (.lload 4, 2) := dc_22 (a := 4) (by decide +kernel)
theorem dX20_mark_57 : decode cX20_mark 57 = .ok (.lastore, 1) := dc_80 (by decide +kernel)
theorem dX20_mark_58 : decode cX20_mark 58 = .ok (.aload_n 0, 1) := dc_42 (by decide +kernel)
theorem dX20_mark_59 : decode cX20_mark 59 = .ok (.getfield 11, 3) := dc_180 (a := 0) (b := 11) (n := 11) (by decide +kernel)
theorem dX20_mark_62 : decode cX20_mark 62 = .ok (.iload 9, 2) := dc_21 (a := 9) (by decide +kernel)
theorem dX20_mark_64 : decode cX20_mark 64 = .ok (.iconst 3, 1) := dc_6 (by decide +kernel)
theorem dX20_mark_65 : decode cX20_mark 65 = .ok (.iadd, 1) := dc_96 (by decide +kernel)
theorem dX20_mark_66 : decode cX20_mark 66 = .ok (.iload 6, 2) := dc_21 (a := 6) (by decide +kernel)
theorem dX20_mark_68 : decode cX20_mark 68 = .ok (.i2l, 1) := dc_133 (by decide +kernel)
theorem dX20_mark_69 : decode cX20_mark 69 = .ok (.lastore, 1) := dc_80 (by decide +kernel)
theorem dX20_mark_70 : decode cX20_mark 70 = .ok (.aload_n 0, 1) := dc_42 (by decide +kernel)
theorem dX20_mark_71 : decode cX20_mark 71 = .ok (.getfield 11, 3) := dc_180 (a := 0) (b := 11) (n := 11) (by decide +kernel)
theorem dX20_mark_74 : decode cX20_mark 74 = .ok (.iload 9, 2) := dc_21 (a := 9) (by decide +kernel)
theorem dX20_mark_76 : decode cX20_mark 76 = .ok (.iconst 4, 1) := dc_7 (by decide +kernel)
theorem dX20_mark_77 : decode cX20_mark 77 = .ok (.iadd, 1) := dc_96 (by decide +kernel)
theorem dX20_mark_78 : decode cX20_mark 78 = .ok (.iload 7, 2) := dc_21 (a := 7) (by decide +kernel)
theorem dX20_mark_80 : decode cX20_mark 80 = .ok (.i2l, 1) := dc_133 (by decide +kernel)
theorem dX20_mark_81 : decode cX20_mark 81 = .ok (.lastore, 1) := dc_80 (by decide +kernel)
theorem dX20_mark_82 : decode cX20_mark 82 = .ok (.aload_n 0, 1) := dc_42 (by decide +kernel)
theorem dX20_mark_83 : decode cX20_mark 83 = .ok (.getfield 11, 3) := dc_180 (a := 0) (b := 11) (n := 11) (by decide +kernel)
theorem dX20_mark_86 : decode cX20_mark 86 = .ok (.iload 9, 2) := dc_21 (a := 9) (by decide +kernel)
theorem dX20_mark_88 : decode cX20_mark 88 = .ok (.iconst 5, 1) := dc_8 (by decide +kernel)
theorem dX20_mark_89 : decode cX20_mark 89 = .ok (.iadd, 1) := dc_96 (by decide +kernel)
theorem dX20_mark_90 : decode cX20_mark 90 = .ok (.iload 8, 2) := dc_21 (a := 8) (by decide +kernel)
theorem dX20_mark_92 : decode cX20_mark 92 = .ok (.i2l, 1) := dc_133 (by decide +kernel)
theorem dX20_mark_93 : decode cX20_mark 93 = .ok (.lastore, 1) := dc_80 (by decide +kernel)
theorem dX20_mark_94 : decode cX20_mark 94 = .ok (.iconst 1, 1) := dc_4 (by decide +kernel)
theorem dX20_mark_95 : decode cX20_mark 95 = .ok (.ireturn, 1) := dc_172 (by decide +kernel)
theorem GX20_11 {w : eW} {d : Nat} {Y : eY} {pc : Nat} {ls : eL} {st : List Value} {h : eH} {Q : eO → eH → Prop} {a : Nat} {x : Nat} (hf : g_A 19 h a 2 = some x) (hd : decode Y.2.1 pc = .ok (.getfield 11, 3)) (hY : Y.1.cls = RX20) (kk : wp w d Y (pc + 3) ls (.ref x :: st) h Q) : wp w d Y pc ls (.ref a :: st) h Q := x_gA (ci := 19) (k := 2) hf hd rfl (by decide) (by rw [hY]; exact q1203) kk
theorem GX20_45 {w : eW} {d : Nat} {Y : eY} {pc : Nat} {ls : eL} {st : List Value} {h : eH} {Q : eO → eH → Prop} {a : Nat} {x : Int32} (hf : g_I 19 h a 3 = some x) (hd : decode Y.2.1 pc = .ok (.getfield 45, 3)) (hY : Y.1.cls = RX20) (kk : wp w d Y (pc + 3) ls (.int x :: st) h Q) : wp w d Y pc ls (.ref a :: st) h Q := x_gI (ci := 19) (k := 3) hf hd rfl (by decide) (by rw [hY]; exact q1205) kk
theorem SX20_45 {w : eW} {d : Nat} {Y : eY} {pc : Nat} {ls : eL} {st : List Value} {h : eH} {Q : eO → eH → Prop} {a : Nat} {h' : eH} {x : Int32} (hf : p_V 19 h a 3 (.int x) = some h') (hd : decode Y.2.1 pc = .ok (.putfield 45, 3)) (hY : Y.1.cls = RX20) (kk : wp w d Y (pc + 3) ls st h' Q) : wp w d Y pc ls (.int x :: .ref a :: st) h Q := x_pI (ci := 19) (k := 3) hf hd rfl (by decide) (by rw [hY]; exact q1205) rfl rfl kk
def fX20_mark (this : Nat) (p0 : Int32) (p1 : Int64) (p2 : Int64) (p3 : Int32) (p4 : Int32) (p5 : Int32) (h : eH) : Option (Int32 × eH) :=
  (g_I 19 h this 3).bind fun x1 =>
  if ¬ x1 = (3000 : Int32) then
    (g_I 19 h this 3).bind fun x4 =>
    (p_V 19 h this 3 (.int (x4 + (1 : Int32)))).bind fun h6 =>
    (g_A 19 h6 this 2).bind fun a8 =>
    (q_V 101 h6 a8 ((6 : Int32) * x4) (.long (p0).toInt64)).bind fun h10 =>
    (g_A 19 h10 this 2).bind fun a12 =>
    (q_V 101 h10 a12 (((6 : Int32) * x4) + (1 : Int32)) (.long p1)).bind fun h14 =>
    (g_A 19 h14 this 2).bind fun a16 =>
    (q_V 101 h14 a16 (((6 : Int32) * x4) + (2 : Int32)) (.long p2)).bind fun h18 =>
    (g_A 19 h18 this 2).bind fun a20 =>
    (q_V 101 h18 a20 (((6 : Int32) * x4) + (3 : Int32)) (.long (p3).toInt64)).bind fun h22 =>
    (g_A 19 h22 this 2).bind fun a24 =>
    (q_V 101 h22 a24 (((6 : Int32) * x4) + (4 : Int32)) (.long (p4).toInt64)).bind fun h26 =>
    (g_A 19 h26 this 2).bind fun a28 =>
    (q_V 101 h26 a28 (((6 : Int32) * x4) + (5 : Int32)) (.long (p5).toInt64)).bind fun h30 =>
    some ((1 : Int32), h30)
  else
    some ((0 : Int32), h)
theorem pX20_mark {w : eW} {d : Nat} (hd : 0 ≤ d) {this : Nat} {p0 : Int32} {p1 : Int64} {p2 : Int64} {p3 : Int32} {p4 : Int32} {p5 : Int32} {h : eH} {q} (hf : fX20_mark this p0 p1 p2 p3 p4 p5 h = some q) : wm w d YX20_mark [.ref this, .int p0, .long p1, .long p2, .int p3, .int p4, .int p5] h (e_is (e_rn c_I q)) := by
  show wp w d YX20_mark 0 [some (.ref this), some (.int p0), some (.long p1), none, some (.long p2), none, some (.int p3), some (.int p4), some (.int p5), none] [] h _
  unfold fX20_mark at hf
  refine w_aload_n dX20_mark_0 rfl rfl ?_
  obtain ⟨x1, b2, hf⟩ := Option.bind_eq_some_iff.mp hf
  refine GX20_45 b2 dX20_mark_1 rfl ?_
  refine w_sipush dX20_mark_4 (v := 3000) (by decide) ?_
  refine w_icmp_ne 12 dX20_mark_7 (by decide) (fun c3 => ?_) (fun c3 => ?_)
  · replace hf := (if_pos (show ¬ x1 = (3000 : Int32) from c3)).symm.trans hf
    refine w_bipush dX20_mark_12 (v := 6) (by decide) ?_
    refine w_aload_n dX20_mark_14 rfl rfl ?_
    refine w_dup dX20_mark_15 rfl ?_
    obtain ⟨x4, b5, hf⟩ := Option.bind_eq_some_iff.mp hf
    refine GX20_45 b5 dX20_mark_16 rfl ?_
    refine w_dup_x1 dX20_mark_19 rfl rfl ?_
    refine w_iconst dX20_mark_20 (v := 1) (by decide) ?_
    refine w_iadd dX20_mark_21 ?_
    obtain ⟨h6, b7, hf⟩ := Option.bind_eq_some_iff.mp hf
    refine SX20_45 b7 dX20_mark_22 rfl ?_
    refine w_imul dX20_mark_25 ?_
    refine w_istore dX20_mark_26 (by decide) (ls' := [some (.ref this), some (.int p0), some (.long p1), none, some (.long p2), none, some (.int p3), some (.int p4), some (.int p5), some (.int ((6 : Int32) * x4))]) rfl ?_
    refine w_aload_n dX20_mark_28 rfl rfl ?_
    obtain ⟨a8, b9, hf⟩ := Option.bind_eq_some_iff.mp hf
    refine GX20_11 b9 dX20_mark_29 rfl ?_
    refine w_iload dX20_mark_32 rfl ?_
    refine w_iload_n dX20_mark_34 rfl rfl ?_
    refine w_i2l dX20_mark_35 ?_
    obtain ⟨h10, b11, hf⟩ := Option.bind_eq_some_iff.mp hf
    refine x_qJ b11 dX20_mark_36 ?_
    refine w_aload_n dX20_mark_37 rfl rfl ?_
    obtain ⟨a12, b13, hf⟩ := Option.bind_eq_some_iff.mp hf
    refine GX20_11 b13 dX20_mark_38 rfl ?_
    refine w_iload dX20_mark_41 rfl ?_
    refine w_iconst dX20_mark_43 (v := 1) (by decide) ?_
    refine w_iadd dX20_mark_44 ?_
    refine w_lload_n dX20_mark_45 rfl rfl ?_
    obtain ⟨h14, b15, hf⟩ := Option.bind_eq_some_iff.mp hf
    refine x_qJ b15 dX20_mark_46 ?_
    refine w_aload_n dX20_mark_47 rfl rfl ?_
    obtain ⟨a16, b17, hf⟩ := Option.bind_eq_some_iff.mp hf
    refine GX20_11 b17 dX20_mark_48 rfl ?_
    refine w_iload dX20_mark_51 rfl ?_
    refine w_iconst dX20_mark_53 (v := 2) (by decide) ?_
    refine w_iadd dX20_mark_54 ?_
    refine w_lload dX20_mark_55 rfl ?_
    obtain ⟨h18, b19, hf⟩ := Option.bind_eq_some_iff.mp hf
    refine x_qJ b19 dX20_mark_57 ?_
    refine w_aload_n dX20_mark_58 rfl rfl ?_
    obtain ⟨a20, b21, hf⟩ := Option.bind_eq_some_iff.mp hf
    refine GX20_11 b21 dX20_mark_59 rfl ?_
    refine w_iload dX20_mark_62 rfl ?_
    refine w_iconst dX20_mark_64 (v := 3) (by decide) ?_
    refine w_iadd dX20_mark_65 ?_
    refine w_iload dX20_mark_66 rfl ?_
    refine w_i2l dX20_mark_68 ?_
    obtain ⟨h22, b23, hf⟩ := Option.bind_eq_some_iff.mp hf
    refine x_qJ b23 dX20_mark_69 ?_
    refine w_aload_n dX20_mark_70 rfl rfl ?_
    obtain ⟨a24, b25, hf⟩ := Option.bind_eq_some_iff.mp hf
    refine GX20_11 b25 dX20_mark_71 rfl ?_
    refine w_iload dX20_mark_74 rfl ?_
    refine w_iconst dX20_mark_76 (v := 4) (by decide) ?_
    refine w_iadd dX20_mark_77 ?_
    refine w_iload dX20_mark_78 rfl ?_
    refine w_i2l dX20_mark_80 ?_
    obtain ⟨h26, b27, hf⟩ := Option.bind_eq_some_iff.mp hf
    refine x_qJ b27 dX20_mark_81 ?_
    refine w_aload_n dX20_mark_82 rfl rfl ?_
    obtain ⟨a28, b29, hf⟩ := Option.bind_eq_some_iff.mp hf
    refine GX20_11 b29 dX20_mark_83 rfl ?_
    refine w_iload dX20_mark_86 rfl ?_
    refine w_iconst dX20_mark_88 (v := 5) (by decide) ?_
    refine w_iadd dX20_mark_89 ?_
    refine w_iload dX20_mark_90 rfl ?_
    refine w_i2l dX20_mark_92 ?_
    obtain ⟨h30, b31, hf⟩ := Option.bind_eq_some_iff.mp hf
    refine x_qJ b31 dX20_mark_93 ?_
    refine w_iconst dX20_mark_94 (v := 1) (by decide) ?_
    cases hf
    exact w_iret dX20_mark_95 rfl rfl rfl
  · replace hf := (if_neg (show ¬ (¬ x1 = (3000 : Int32)) from (fun z => z c3))).symm.trans hf
    refine w_iconst dX20_mark_10 (v := 0) (by decide) ?_
    cases hf
    exact w_iret dX20_mark_11 rfl rfl rfl
abbrev cX7_isRunning : ByteArray := prog_25_method_7_code
def yX7_isRunning : MethodName := ⟨RX7, "isRunning", "(II)Z"⟩
def YX7_isRunning : eY := (yX7_isRunning, cX7_isRunning, 3, (Option.some FieldType.boolean), [])
theorem mX7_isRunning : e_mv YX7_isRunning RX7 2 := ⟨q3355, q3356, q3357, by decide, by decide +kernel, (e_sig (by decide +kernel))⟩
theorem dX7_isRunning_0 : decode cX7_isRunning 0 = .ok (.aload_n 0, 1) := dc_42 (by decide +kernel)
theorem dX7_isRunning_1 : decode cX7_isRunning 1 = .ok (.iload_n 1, 1) := dc_27 (by decide +kernel)
theorem dX7_isRunning_2 : decode cX7_isRunning 2 = .ok (.iload_n 2, 1) := dc_28 (by decide +kernel)
theorem dX7_isRunning_3 : decode cX7_isRunning 3 = .ok (.invokevirtual 35, 3) := dc_182 (a := 0) (b := 35) (n := 35) (by decide +kernel)
theorem dX7_isRunning_6 : decode cX7_isRunning 6 = .ok (.ldc 39, 2) := dc_18 (a := 39) (by decide +kernel)
theorem dX7_isRunning_8 : decode cX7_isRunning 8 = .ok (.if_icmp .ne 7, 3) := dc_160 (a := 0) (b := 7) (v := 7) (by decide +kernel)
theorem dX7_isRunning_11 : decode cX7_isRunning 11 = .ok (.iconst 1, 1) := dc_4 (by decide +kernel)
theorem dX7_isRunning_12 : decode cX7_isRunning 12 = .ok (.goto 4, 3) := dc_167 (a := 0) (b := 4) (v := 4) (by decide +kernel)
theorem dX7_isRunning_15 : decode cX7_isRunning 15 = .ok (.iconst 0, 1) := dc_3 (by decide +kernel)
theorem dX7_isRunning_16 : decode cX7_isRunning 16 = .ok (.ireturn, 1) := dc_172 (by decide +kernel)
def fX7_isRunning_b16 (s0 : Int32) (h : eH) : Option (Int32 × eH) :=
  z_r s0 (s0, h)
theorem pX7_isRunning_b16 {w : eW} {d : Nat} (hd : 1 ≤ d + 1) {s0 : Int32} {h : eH} {q} (hf : fX7_isRunning_b16 s0 h = some q) : wp w (d + 1) YX7_isRunning 16 [none, none, none] [.int s0] h (e_is (e_rn c_I q)) := by
  unfold fX7_isRunning_b16 at hf
  obtain ⟨b1, rfl⟩ := z_r_some hf
  exact w_iret dX7_isRunning_16 rfl b1 rfl
def fX7_isRunning (this : Nat) (p0 : Int32) (p1 : Int32) (h : eH) : Option (Int32 × eH) :=
  (k_ok 6 h this).bind fun _ =>
  (fX7_of this p0 p1 h).bind fun q2 =>
  if ¬ q2.1 = (-1073741824 : Int32) then
    fX7_isRunning_b16 (0 : Int32) q2.2
  else
    fX7_isRunning_b16 (1 : Int32) q2.2
theorem pX7_isRunning {w : eW} {d : Nat} (hd : 1 ≤ d) {this : Nat} {p0 : Int32} {p1 : Int32} {h : eH} {q} (hf : fX7_isRunning this p0 p1 h = some q) : wm w d YX7_isRunning [.ref this, .int p0, .int p1] h (e_is (e_rn c_I q)) := by
  obtain ⟨d, rfl⟩ : ∃ e, d = e + 1 := ⟨d - 1, by omega⟩
  show wp w (d + 1) YX7_isRunning 0 [some (.ref this), some (.int p0), some (.int p1)] [] h _
  unfold fX7_isRunning at hf
  refine w_aload_n dX7_isRunning_0 rfl rfl ?_
  refine w_iload_n dX7_isRunning_1 rfl rfl ?_
  refine w_iload_n dX7_isRunning_2 rfl rfl ?_
  obtain ⟨_, b1, hf⟩ := Option.bind_eq_some_iff.mp hf
  refine x_cnI hf (e_stV (Yc := YX7_of) (ci := 6) (av := [.int p0, .int p1]) (st := []) dX7_isRunning_3 q3358 mX7_of rfl (k_ok_some b1).1 (k_ok_some b1).2) mX7_of.2.2.1 mX7_of.2.2.2.2.1 (Nat.le_of_ble_eq_true rfl) (Nat.le_of_ble_eq_true rfl) (fun q hq => pX7_of (by omega) hq) (fun q2 hf => ?_)
  refine w_ldc dX7_isRunning_6 q3359 ?_
  refine w_icmp_ne 15 dX7_isRunning_8 (by decide) (fun c3 => ?_) (fun c3 => ?_)
  · replace hf := (if_pos (show ¬ q2.1 = (-1073741824 : Int32) from c3)).symm.trans hf
    refine w_iconst dX7_isRunning_15 (v := 0) (by decide) ?_
    exact (pX7_isRunning_b16 hd hf).to trivial
  · replace hf := (if_neg (show ¬ (¬ q2.1 = (-1073741824 : Int32)) from (fun z => z c3))).symm.trans hf
    refine w_iconst dX7_isRunning_11 (v := 1) (by decide) ?_
    refine w_goto 16 dX7_isRunning_12 (by decide) ?_
    exact (pX7_isRunning_b16 hd hf).to trivial
abbrev cX7_solid : ByteArray := prog_25_method_6_code
def yX7_solid : MethodName := ⟨RX7, "solid", "(II)I"⟩
def YX7_solid : eY := (yX7_solid, cX7_solid, 4, (Option.some FieldType.int), [])
theorem mX7_solid : e_mv YX7_solid RX7 2 := ⟨q3361, q3362, q3363, by decide, by decide +kernel, (e_sig (by decide +kernel))⟩
theorem dX7_solid_0 : decode cX7_solid 0 = .ok (.aload_n 0, 1) := dc_42 (by decide +kernel)
theorem dX7_solid_1 : decode cX7_solid 1 = .ok (.iload_n 1, 1) := dc_27 (by decide +kernel)
theorem dX7_solid_2 : decode cX7_solid 2 = .ok (.iload_n 2, 1) := dc_28 (by decide +kernel)
theorem dX7_solid_3 : decode cX7_solid 3 = .ok (.invokevirtual 35, 3) := dc_182 (a := 0) (b := 35) (n := 35) (by decide +kernel)
theorem dX7_solid_6 : decode cX7_solid 6 = .ok (.istore_n 3, 1) := dc_62 (by decide +kernel)
theorem dX7_solid_7 : decode cX7_solid 7 = .ok (.iload_n 3, 1) := dc_29 (by decide +kernel)
theorem dX7_solid_8 : decode cX7_solid 8 = .ok (.ldc 39, 2) := dc_18 (a := 39) (by decide +kernel)
theorem dX7_solid_10 : decode cX7_solid 10 = .ok (.if_icmp .ne 7, 3) := dc_160 (a := 0) (b := 7) (v := 7) (by decide +kernel)
theorem dX7_solid_13 : decode cX7_solid 13 = .ok (.iconst 0, 1) := dc_3 (by decide +kernel)
theorem dX7_solid_14 : decode cX7_solid 14 = .ok (.goto 4, 3) := dc_167 (a := 0) (b := 4) (v := 4) (by decide +kernel)
theorem dX7_solid_17 : decode cX7_solid 17 = .ok (.iload_n 3, 1) := dc_29 (by decide +kernel)
theorem dX7_solid_18 : decode cX7_solid 18 = .ok (.ireturn, 1) := dc_172 (by decide +kernel)
def fX7_solid_b18 (s0 : Int32) (h : eH) : Option (Int32 × eH) :=
  some (s0, h)
theorem pX7_solid_b18 {w : eW} {d : Nat} (hd : 1 ≤ d + 1) {s0 : Int32} {h : eH} {q} (hf : fX7_solid_b18 s0 h = some q) : wp w (d + 1) YX7_solid 18 [none, none, none, none] [.int s0] h (e_is (e_rn c_I q)) := by
  unfold fX7_solid_b18 at hf
  cases hf
  exact w_iret dX7_solid_18 rfl rfl rfl
def fX7_solid (this : Nat) (p0 : Int32) (p1 : Int32) (h : eH) : Option (Int32 × eH) :=
  (k_ok 6 h this).bind fun _ =>
  (fX7_of this p0 p1 h).bind fun q2 =>
  if ¬ q2.1 = (-1073741824 : Int32) then
    fX7_solid_b18 q2.1 q2.2
  else
    fX7_solid_b18 (0 : Int32) q2.2
theorem pX7_solid {w : eW} {d : Nat} (hd : 1 ≤ d) {this : Nat} {p0 : Int32} {p1 : Int32} {h : eH} {q} (hf : fX7_solid this p0 p1 h = some q) : wm w d YX7_solid [.ref this, .int p0, .int p1] h (e_is (e_rn c_I q)) := by
  obtain ⟨d, rfl⟩ : ∃ e, d = e + 1 := ⟨d - 1, by omega⟩
  show wp w (d + 1) YX7_solid 0 [some (.ref this), some (.int p0), some (.int p1), none] [] h _
  unfold fX7_solid at hf
  refine w_aload_n dX7_solid_0 rfl rfl ?_
  refine w_iload_n dX7_solid_1 rfl rfl ?_
  refine w_iload_n dX7_solid_2 rfl rfl ?_
  obtain ⟨_, b1, hf⟩ := Option.bind_eq_some_iff.mp hf
  refine x_cnI hf (e_stV (Yc := YX7_of) (ci := 6) (av := [.int p0, .int p1]) (st := []) dX7_solid_3 q3358 mX7_of rfl (k_ok_some b1).1 (k_ok_some b1).2) mX7_of.2.2.1 mX7_of.2.2.2.2.1 (Nat.le_of_ble_eq_true rfl) (Nat.le_of_ble_eq_true rfl) (fun q hq => pX7_of (by omega) hq) (fun q2 hf => ?_)
  refine w_istore_n dX7_solid_6 rfl (by decide) (ls' := [some (.ref this), some (.int p0), some (.int p1), some (.int q2.1)]) rfl ?_
  refine w_iload_n dX7_solid_7 rfl rfl ?_
  refine w_ldc dX7_solid_8 q3359 ?_
  refine w_icmp_ne 17 dX7_solid_10 (by decide) (fun c3 => ?_) (fun c3 => ?_)
  · replace hf := (if_pos (show ¬ q2.1 = (-1073741824 : Int32) from c3)).symm.trans hf
    refine w_iload_n dX7_solid_17 rfl rfl ?_
    exact (pX7_solid_b18 hd hf).to trivial
  · replace hf := (if_neg (show ¬ (¬ q2.1 = (-1073741824 : Int32)) from (fun z => z c3))).symm.trans hf
    refine w_iconst dX7_solid_13 (v := 0) (by decide) ?_
    refine w_goto 18 dX7_solid_14 (by decide) ?_
    exact (pX7_solid_b18 hd hf).to trivial
abbrev cX20_rule : ByteArray := prog_11_method_4_code
def yX20_rule : MethodName := ⟨RX20, "rule", "(LTypeHouse$Box;IJJ)Z"⟩
def YX20_rule : eY := (yX20_rule, cX20_rule, 10, (Option.some FieldType.boolean), [])
theorem mX20_rule : e_mv YX20_rule RX20 4 := ⟨q3352, qs133, q3353, by decide, by decide +kernel, (e_sig (by decide +kernel))⟩
theorem dX20_rule_0 : decode cX20_rule 0 = .ok (.aload_n 0, 1) := dc_42 (by decide +kernel)
theorem dX20_rule_1 : decode cX20_rule 1 = .ok (.getfield 31, 3) := dc_180 (a := 0) (b := 31) (n := 31) (by decide +kernel)
theorem dX20_rule_4 : decode cX20_rule 4 = .ok (.iload_n 2, 1) := dc_28 (by decide +kernel)
theorem dX20_rule_5 : decode cX20_rule 5 = .ok (.iconst 0, 1) := dc_3 (by decide +kernel)
theorem dX20_rule_6 : decode cX20_rule 6 = .ok (.invokevirtual 48, 3) := dc_182 (a := 0) (b := 48) (n := 48) (by decide +kernel)
theorem dX20_rule_9 : decode cX20_rule 9 = .ok (.ifCond .eq 17, 3) := dc_153 (a := 0) (b := 17) (v := 17) (by decide +kernel)
theorem dX20_rule_12 : decode cX20_rule 12 = .ok (.aload_n 1, 1) := dc_43 (by decide +kernel)
theorem dX20_rule_13 : decode cX20_rule 13 = .ok (.getfield 54, 3) := dc_180 (a := 0) (b := 54) (n := 54) (by decide +kernel)
theorem dX20_rule_16 : decode cX20_rule 16 = .ok (.ifCond .eq 10, 3) := dc_153 (a := 0) (b := 10) (v := 10) (by decide +kernel)
theorem dX20_rule_19 : decode cX20_rule 19 = .ok (.aload_n 1, 1) := dc_43 (by decide +kernel)
theorem dX20_rule_20 : decode cX20_rule 20 = .ok (.getfield 58, 3) := dc_180 (a := 0) (b := 58) (n := 58) (by decide +kernel)
theorem dX20_rule_23 : decode cX20_rule 23 = .ok (.goto 12, 3) := dc_167 (a := 0) (b := 12) (v := 12) (by decide +kernel)
theorem dX20_rule_26 : decode cX20_rule 26 = .ok (.aload_n 0, 1) := dc_42 (by decide +kernel)
theorem dX20_rule_27 : decode cX20_rule 27 = .ok (.getfield 31, 3) := dc_180 (a := 0) (b := 31) (n := 31) (by decide +kernel)
theorem dX20_rule_30 : decode cX20_rule 30 = .ok (.iload_n 2, 1) := dc_28 (by decide +kernel)
theorem dX20_rule_31 : decode cX20_rule 31 = .ok (.iconst 0, 1) := dc_3 (by decide +kernel)
theorem dX20_rule_32 : decode cX20_rule 32 = .ok (.invokevirtual 61, 3) := dc_182 (a := 0) (b := 61) (n := 61) (by decide +kernel)
theorem dX20_rule_35 : decode cX20_rule 35 = .ok (.istore 7, 2) := dc_54 (a := 7) (by decide +kernel)
theorem dX20_rule_37 : decode cX20_rule 37 = .ok (.aload_n 0, 1) := dc_42 (by decide +kernel)
theorem dX20_rule_38 : decode cX20_rule 38 = .ok (.getfield 31, 3) := dc_180 (a := 0) (b := 31) (n := 31) (by decide +kernel)
theorem dX20_rule_41 : decode cX20_rule 41 = .ok (.iload_n 2, 1) := dc_28 (by decide +kernel)
theorem dX20_rule_42 : decode cX20_rule 42 = .ok (.iconst 1, 1) := dc_4 (by decide +kernel)
theorem dX20_rule_43 : decode cX20_rule 43 = .ok (.invokevirtual 48, 3) := dc_182 (a := 0) (b := 48) (n := 48) (by decide +kernel)
theorem dX20_rule_46 : decode cX20_rule 46 = .ok (.ifCond .eq 17, 3) := dc_153 (a := 0) (b := 17) (v := 17) (by decide +kernel)
theorem dX20_rule_49 : decode cX20_rule 49 = .ok (.aload_n 1, 1) := dc_43 (by decide +kernel)
theorem dX20_rule_50 : decode cX20_rule 50 = .ok (.getfield 54, 3) := dc_180 (a := 0) (b := 54) (n := 54) (by decide +kernel)
theorem dX20_rule_53 : decode cX20_rule 53 = .ok (.ifCond .ne 10, 3) := dc_154 (a := 0) (b := 10) (v := 10) (by decide +kernel)
theorem dX20_rule_56 : decode cX20_rule 56 = .ok (.aload_n 1, 1) := dc_43 (by decide +kernel)
theorem dX20_rule_57 : decode cX20_rule 57 = .ok (.getfield 65, 3) := dc_180 (a := 0) (b := 65) (n := 65) (by decide +kernel)
theorem dX20_rule_60 : decode cX20_rule 60 = .ok (.goto 12, 3) := dc_167 (a := 0) (b := 12) (v := 12) (by decide +kernel)
theorem dX20_rule_63 : decode cX20_rule 63 = .ok (.aload_n 0, 1) := dc_42 (by decide +kernel)
theorem dX20_rule_64 : decode cX20_rule 64 = .ok (.getfield 31, 3) := dc_180 (a := 0) (b := 31) (n := 31) (by decide +kernel)
theorem dX20_rule_67 : decode cX20_rule 67 = .ok (.iload_n 2, 1) := dc_28 (by decide +kernel)
theorem dX20_rule_68 : decode cX20_rule 68 = .ok (.iconst 1, 1) := dc_4 (by decide +kernel)
theorem dX20_rule_69 : decode cX20_rule 69 = .ok (.invokevirtual 61, 3) := dc_182 (a := 0) (b := 61) (n := 61) (by decide +kernel)
theorem dX20_rule_72 : decode cX20_rule 72 = .ok (.istore 8, 2) := dc_54 (a := 8) (by decide +kernel)
theorem dX20_rule_74 : decode cX20_rule 74 = .ok (.aload_n 0, 1) := dc_42 (by decide +kernel)
theorem dX20_rule_75 : decode cX20_rule 75 = .ok (.getfield 31, 3) := dc_180 (a := 0) (b := 31) (n := 31) (by decide +kernel)
theorem dX20_rule_78 : decode cX20_rule 78 = .ok (.iload_n 2, 1) := dc_28 (by decide +kernel)
theorem dX20_rule_79 : decode cX20_rule 79 = .ok (.iconst 2, 1) := dc_5 (by decide +kernel)
theorem dX20_rule_80 : decode cX20_rule 80 = .ok (.invokevirtual 48, 3) := dc_182 (a := 0) (b := 48) (n := 48) (by decide +kernel)
theorem dX20_rule_83 : decode cX20_rule 83 = .ok (.ifCond .eq 17, 3) := dc_153 (a := 0) (b := 17) (v := 17) (by decide +kernel)
theorem dX20_rule_86 : decode cX20_rule 86 = .ok (.aload_n 1, 1) := dc_43 (by decide +kernel)
theorem dX20_rule_87 : decode cX20_rule 87 = .ok (.getfield 54, 3) := dc_180 (a := 0) (b := 54) (n := 54) (by decide +kernel)
theorem dX20_rule_90 : decode cX20_rule 90 = .ok (.ifCond .ne 10, 3) := dc_154 (a := 0) (b := 10) (v := 10) (by decide +kernel)
theorem dX20_rule_93 : decode cX20_rule 93 = .ok (.aload_n 1, 1) := dc_43 (by decide +kernel)
theorem dX20_rule_94 : decode cX20_rule 94 = .ok (.getfield 68, 3) := dc_180 (a := 0) (b := 68) (n := 68) (by decide +kernel)
theorem dX20_rule_97 : decode cX20_rule 97 = .ok (.goto 12, 3) := dc_167 (a := 0) (b := 12) (v := 12) (by decide +kernel)
theorem dX20_rule_100 : decode cX20_rule 100 = .ok (.aload_n 0, 1) := dc_42 (by decide +kernel)
theorem dX20_rule_101 : decode cX20_rule 101 = .ok (.getfield 31, 3) := dc_180 (a := 0) (b := 31) (n := 31) (by decide +kernel)
theorem dX20_rule_104 : decode cX20_rule 104 = .ok (.iload_n 2, 1) := dc_28 (by decide +kernel)
theorem dX20_rule_105 : decode cX20_rule 105 = .ok (.iconst 2, 1) := dc_5 (by decide +kernel)
theorem dX20_rule_106 : decode cX20_rule 106 = .ok (.invokevirtual 61, 3) := dc_182 (a := 0) (b := 61) (n := 61) (by decide +kernel)
theorem dX20_rule_109 : decode cX20_rule 109 = .ok (.istore 9, 2) := dc_54 (a := 9) (by decide +kernel)
theorem dX20_rule_111 : decode cX20_rule 111 = .ok (.iload 7, 2) := dc_21 (a := 7) (by decide +kernel)
theorem dX20_rule_113 : decode cX20_rule 113 = .ok (.ifCond .le 15, 3) := dc_158 (a := 0) (b := 15) (v := 15) (by decide +kernel)
theorem dX20_rule_116 : decode cX20_rule 116 = .ok (.iload 8, 2) := dc_21 (a := 8) (by decide +kernel)
theorem dX20_rule_118 : decode cX20_rule 118 = .ok (.i2l, 1) := dc_133 (by decide +kernel)
theorem dX20_rule_119 : decode cX20_rule 119 = .ok (.iload 9, 2) := dc_21 (a := 9) (by decide +kernel)
theorem dX20_rule_121 : decode cX20_rule 121 = .ok (.i2l, 1) := dc_133 (by decide +kernel)
theorem dX20_rule_122 : decode cX20_rule 122 = .ok (.ladd, 1) := dc_97 (by decide +kernel)
theorem dX20_rule_123 : decode cX20_rule 123 = .ok (.lconst 0, 1) := dc_9 (by decide +kernel)
theorem dX20_rule_124 : decode cX20_rule 124 = .ok (.lcmp, 1) := dc_148 (by decide +kernel)
theorem dX20_rule_125 : decode cX20_rule 125 = .ok (.ifCond .gt 5, 3) := dc_157 (a := 0) (b := 5) (v := 5) (by decide +kernel)
theorem dX20_rule_128 : decode cX20_rule 128 = .ok (.iconst 1, 1) := dc_4 (by decide +kernel)
theorem dX20_rule_129 : decode cX20_rule 129 = .ok (.ireturn, 1) := dc_172 (by decide +kernel)
theorem dX20_rule_130 : decode cX20_rule 130 = .ok (.aload_n 0, 1) := dc_42 (by decide +kernel)
theorem dX20_rule_131 : decode cX20_rule 131 = .ok (.iconst (-1), 1) := dc_2 (by decide +kernel)
theorem dX20_rule_132 : decode cX20_rule 132 = .ok (.lload_n 3, 1) := dc_33 (by decide +kernel)
theorem dX20_rule_133 : decode cX20_rule 133 = .ok (.aload_n 1, 1) := dc_43 (by decide +kernel)
theorem dX20_rule_134 : decode cX20_rule 134 = .ok (.getfield 54, 3) := dc_180 (a := 0) (b := 54) (n := 54) (by decide +kernel)
theorem dX20_rule_137 : decode cX20_rule 137 = .ok (.ifCond .eq 12, 3) := dc_153 (a := 0) (b := 12) (v := 12) (by decide +kernel)
theorem dX20_rule_140 : decode cX20_rule 140 = .ok (.lload 5, 2) := dc_22 (a := 5) (by decide +kernel)
theorem dX20_rule_142 : decode cX20_rule 142 = .ok (.iload 8, 2) := dc_21 (a := 8) (by decide +kernel)
theorem dX20_rule_144 : decode cX20_rule 144 = .ok (.i2l, 1) := dc_133 (by decide +kernel)
theorem dX20_rule_145 : decode cX20_rule 145 = .ok (.ladd, 1) := dc_97 (by decide +kernel)
theorem dX20_rule_146 : decode cX20_rule 146 = .ok (.goto 5, 3) := dc_167 (a := 0) (b := 5) (v := 5) (by decide +kernel)
theorem dX20_rule_149 : decode cX20_rule 149 = .ok (.lload 5, 2) := dc_22 (a := 5) (by decide +kernel)
theorem dX20_rule_151 : decode cX20_rule 151 = .ok (.iload 7, 2) := dc_21 (a := 7) (by decide +kernel)
theorem dX20_rule_153 : decode cX20_rule 153 = .ok (.iload 8, 2) := dc_21 (a := 8) (by decide +kernel)
theorem dX20_rule_155 : decode cX20_rule 155 = .ok (.iload 9, 2) := dc_21 (a := 9) (by decide +kernel)
theorem dX20_rule_157 : decode cX20_rule 157 = .ok (.invokevirtual 69, 3) := dc_182 (a := 0) (b := 69) (n := 69) (by decide +kernel)
theorem dX20_rule_160 : decode cX20_rule 160 = .ok (.ireturn, 1) := dc_172 (by decide +kernel)
theorem GX20_31 {w : eW} {d : Nat} {Y : eY} {pc : Nat} {ls : eL} {st : List Value} {h : eH} {Q : eO → eH → Prop} {a : Nat} {x : Nat} (hf : g_A 19 h a 0 = some x) (hd : decode Y.2.1 pc = .ok (.getfield 31, 3)) (hY : Y.1.cls = RX20) (kk : wp w d Y (pc + 3) ls (.ref x :: st) h Q) : wp w d Y pc ls (.ref a :: st) h Q := x_gA (ci := 19) (k := 0) hf hd rfl (by decide) (by rw [hY]; exact q1201) kk
theorem GX20_54 {w : eW} {d : Nat} {Y : eY} {pc : Nat} {ls : eL} {st : List Value} {h : eH} {Q : eO → eH → Prop} {a : Nat} {x : Int32} (hf : g_I 41 h a 2 = some x) (hd : decode Y.2.1 pc = .ok (.getfield 54, 3)) (hY : Y.1.cls = RX20) (kk : wp w d Y (pc + 3) ls (.int x :: st) h Q) : wp w d Y pc ls (.ref a :: st) h Q := x_gIN (ci := 41) (k := 2) hf hd rfl (by decide) (by rw [hY]; exact q3511) kk
theorem GX20_58 {w : eW} {d : Nat} {Y : eY} {pc : Nat} {ls : eL} {st : List Value} {h : eH} {Q : eO → eH → Prop} {a : Nat} {x : Int32} (hf : g_I 41 h a 3 = some x) (hd : decode Y.2.1 pc = .ok (.getfield 58, 3)) (hY : Y.1.cls = RX20) (kk : wp w d Y (pc + 3) ls (.int x :: st) h Q) : wp w d Y pc ls (.ref a :: st) h Q := x_gIN (ci := 41) (k := 3) hf hd rfl (by decide) (by rw [hY]; exact q3515) kk
theorem GX20_65 {w : eW} {d : Nat} {Y : eY} {pc : Nat} {ls : eL} {st : List Value} {h : eH} {Q : eO → eH → Prop} {a : Nat} {x : Int32} (hf : g_I 41 h a 4 = some x) (hd : decode Y.2.1 pc = .ok (.getfield 65, 3)) (hY : Y.1.cls = RX20) (kk : wp w d Y (pc + 3) ls (.int x :: st) h Q) : wp w d Y pc ls (.ref a :: st) h Q := x_gIN (ci := 41) (k := 4) hf hd rfl (by decide) (by rw [hY]; exact q3519) kk
theorem GX20_68 {w : eW} {d : Nat} {Y : eY} {pc : Nat} {ls : eL} {st : List Value} {h : eH} {Q : eO → eH → Prop} {a : Nat} {x : Int32} (hf : g_I 41 h a 5 = some x) (hd : decode Y.2.1 pc = .ok (.getfield 68, 3)) (hY : Y.1.cls = RX20) (kk : wp w d Y (pc + 3) ls (.int x :: st) h Q) : wp w d Y pc ls (.ref a :: st) h Q := x_gIN (ci := 41) (k := 5) hf hd rfl (by decide) (by rw [hY]; exact q3523) kk
def fX20_rule_b128  (h : eH) : Option (Int32 × eH) :=
  some ((1 : Int32), h)
theorem pX20_rule_b128 {w : eW} {d : Nat} (hd : 2 ≤ d + 1)  {h : eH} {q} (hf : fX20_rule_b128  h = some q) : wp w (d + 1) YX20_rule 128 [none, none, none, none, none, none, none, none, none, none] [] h (e_is (e_rn c_I q)) := by
  unfold fX20_rule_b128 at hf
  refine w_iconst dX20_rule_128 (v := 1) (by decide) ?_
  cases hf
  exact w_iret dX20_rule_129 rfl rfl rfl
def fX20_rule_b151 (l7 : Int32) (l8 : Int32) (l9 : Int32) (s0 : Nat) (s1 : Int32) (s2 : Int64) (s3 : Int64) (h : eH) : Option (Int32 × eH) :=
  (k_ok 19 h s0).bind fun _ =>
  (fX20_mark s0 s1 s2 s3 l7 l8 l9 h).bind fun q2 =>
  z_r q2.1 (q2.1, q2.2)
theorem pX20_rule_b151 {w : eW} {d : Nat} (hd : 2 ≤ d + 1) {l7 : Int32} {l8 : Int32} {l9 : Int32} {s0 : Nat} {s1 : Int32} {s2 : Int64} {s3 : Int64} {h : eH} {q} (hf : fX20_rule_b151 l7 l8 l9 s0 s1 s2 s3 h = some q) : wp w (d + 1) YX20_rule 151 [none, none, none, none, none, none, none, some (.int l7), some (.int l8), some (.int l9)] [.long s3, .long s2, .int s1, .ref s0] h (e_is (e_rn c_I q)) := by
  unfold fX20_rule_b151 at hf
  refine w_iload dX20_rule_151 rfl ?_
  refine w_iload dX20_rule_153 rfl ?_
  refine w_iload dX20_rule_155 rfl ?_
  obtain ⟨_, b1, hf⟩ := Option.bind_eq_some_iff.mp hf
  refine x_cnI hf (e_stV (Yc := YX20_mark) (ci := 19) (av := [.int s1, .long s2, .long s3, .int l7, .int l8, .int l9]) (st := []) dX20_rule_157 q3346 mX20_mark rfl (k_ok_some b1).1 (k_ok_some b1).2) mX20_mark.2.2.1 mX20_mark.2.2.2.2.1 (Nat.le_of_ble_eq_true rfl) (Nat.le_of_ble_eq_true rfl) (fun q hq => pX20_mark (by omega) hq) (fun q2 hf => ?_)
  obtain ⟨b3, rfl⟩ := z_r_some hf
  exact w_iret dX20_rule_160 rfl b3 rfl
def fX20_rule_b109 (l0 : Nat) (l1 : Nat) (l3 : Int64) (l5 : Int64) (l7 : Int32) (l8 : Int32) (s0 : Int32) (h : eH) : Option (Int32 × eH) :=
  if l7 ≤ 0 then
    fX20_rule_b128 h
  else
    if 0 < (lg_cmp ((l8).toInt64 + (s0).toInt64) (0 : Int64)) then
      (g_I 41 h l1 2).bind fun x3 =>
      if x3 = 0 then
        fX20_rule_b151 l7 l8 s0 l0 (-1 : Int32) l3 l5 h
      else
        fX20_rule_b151 l7 l8 s0 l0 (-1 : Int32) l3 (l5 + (l8).toInt64) h
    else
      fX20_rule_b128 h
theorem pX20_rule_b109 {w : eW} {d : Nat} (hd : 2 ≤ d + 1) {l0 : Nat} {l1 : Nat} {l3 : Int64} {l5 : Int64} {l7 : Int32} {l8 : Int32} {s0 : Int32} {h : eH} {q} (hf : fX20_rule_b109 l0 l1 l3 l5 l7 l8 s0 h = some q) : wp w (d + 1) YX20_rule 109 [some (.ref l0), some (.ref l1), none, some (.long l3), none, some (.long l5), none, some (.int l7), some (.int l8), none] [.int s0] h (e_is (e_rn c_I q)) := by
  unfold fX20_rule_b109 at hf
  refine w_istore dX20_rule_109 (by decide) (ls' := [some (.ref l0), some (.ref l1), none, some (.long l3), none, some (.long l5), none, some (.int l7), some (.int l8), some (.int s0)]) rfl ?_
  refine w_iload dX20_rule_111 rfl ?_
  refine w_if_le 128 dX20_rule_113 (by decide) (fun c1 => ?_) (fun c1 => ?_)
  · replace hf := (if_pos (show l7 ≤ 0 from c1)).symm.trans hf
    exact (pX20_rule_b128 hd hf).to trivial
  · replace hf := (if_neg (show ¬ (l7 ≤ 0) from c1)).symm.trans hf
    refine w_iload dX20_rule_116 rfl ?_
    refine w_i2l dX20_rule_118 ?_
    refine w_iload dX20_rule_119 rfl ?_
    refine w_i2l dX20_rule_121 ?_
    refine w_ladd dX20_rule_122 ?_
    refine w_lconst dX20_rule_123 (v := 0) (by decide) ?_
    refine w_lcmp dX20_rule_124 ?_
    refine w_if_gt 130 dX20_rule_125 (by decide) (fun c2 => ?_) (fun c2 => ?_)
    · replace hf := (if_pos (show 0 < (lg_cmp ((l8).toInt64 + (s0).toInt64) (0 : Int64)) from c2)).symm.trans hf
      refine w_aload_n dX20_rule_130 rfl rfl ?_
      refine w_iconst dX20_rule_131 (v := -1) (by decide) ?_
      refine w_lload_n dX20_rule_132 rfl rfl ?_
      refine w_aload_n dX20_rule_133 rfl rfl ?_
      obtain ⟨x3, b4, hf⟩ := Option.bind_eq_some_iff.mp hf
      refine GX20_54 b4 dX20_rule_134 rfl ?_
      refine w_if_eq 149 dX20_rule_137 (by decide) (fun c5 => ?_) (fun c5 => ?_)
      · replace hf := (if_pos (show x3 = 0 from c5)).symm.trans hf
        refine w_lload dX20_rule_149 rfl ?_
        exact (pX20_rule_b151 hd hf).to ⟨rfl, rfl, rfl, trivial⟩
      · replace hf := (if_neg (show ¬ (x3 = 0) from c5)).symm.trans hf
        refine w_lload dX20_rule_140 rfl ?_
        refine w_iload dX20_rule_142 rfl ?_
        refine w_i2l dX20_rule_144 ?_
        refine w_ladd dX20_rule_145 ?_
        refine w_goto 151 dX20_rule_146 (by decide) ?_
        exact (pX20_rule_b151 hd hf).to ⟨rfl, rfl, rfl, trivial⟩
    · replace hf := (if_neg (show ¬ (0 < (lg_cmp ((l8).toInt64 + (s0).toInt64) (0 : Int64))) from c2)).symm.trans hf
      exact (pX20_rule_b128 hd hf).to trivial
def fX20_rule_b100 (l0 : Nat) (l1 : Nat) (l2 : Int32) (l3 : Int64) (l5 : Int64) (l7 : Int32) (l8 : Int32) (h : eH) : Option (Int32 × eH) :=
  (g_A 19 h l0 0).bind fun a1 =>
  (k_ok 6 h a1).bind fun _ =>
  (fX7_solid a1 l2 (2 : Int32) h).bind fun q4 =>
  fX20_rule_b109 l0 l1 l3 l5 l7 l8 q4.1 q4.2
theorem pX20_rule_b100 {w : eW} {d : Nat} (hd : 2 ≤ d + 1) {l0 : Nat} {l1 : Nat} {l2 : Int32} {l3 : Int64} {l5 : Int64} {l7 : Int32} {l8 : Int32} {h : eH} {q} (hf : fX20_rule_b100 l0 l1 l2 l3 l5 l7 l8 h = some q) : wp w (d + 1) YX20_rule 100 [some (.ref l0), some (.ref l1), some (.int l2), some (.long l3), none, some (.long l5), none, some (.int l7), some (.int l8), none] [] h (e_is (e_rn c_I q)) := by
  unfold fX20_rule_b100 at hf
  refine w_aload_n dX20_rule_100 rfl rfl ?_
  obtain ⟨a1, b2, hf⟩ := Option.bind_eq_some_iff.mp hf
  refine GX20_31 b2 dX20_rule_101 rfl ?_
  refine w_iload_n dX20_rule_104 rfl rfl ?_
  refine w_iconst dX20_rule_105 (v := 2) (by decide) ?_
  obtain ⟨_, b3, hf⟩ := Option.bind_eq_some_iff.mp hf
  refine x_cnI hf (e_stV (Yc := YX7_solid) (ci := 6) (av := [.int l2, .int (2 : Int32)]) (st := []) dX20_rule_106 q3360 mX7_solid rfl (k_ok_some b3).1 (k_ok_some b3).2) mX7_solid.2.2.1 mX7_solid.2.2.2.2.1 (Nat.le_of_ble_eq_true rfl) (Nat.le_of_ble_eq_true rfl) (fun q hq => pX7_solid (by omega) hq) (fun q4 hf => ?_)
  exact (pX20_rule_b109 hd hf).to ⟨rfl, rfl, rfl, rfl, rfl, rfl, trivial⟩
def fX20_rule_b72 (l0 : Nat) (l1 : Nat) (l2 : Int32) (l3 : Int64) (l5 : Int64) (l7 : Int32) (s0 : Int32) (h : eH) : Option (Int32 × eH) :=
  (g_A 19 h l0 0).bind fun a1 =>
  (k_ok 6 h a1).bind fun _ =>
  (fX7_isRunning a1 l2 (2 : Int32) h).bind fun q4 =>
  if q4.1 = 0 then
    fX20_rule_b100 l0 l1 l2 l3 l5 l7 s0 q4.2
  else
    (g_I 41 q4.2 l1 2).bind fun x6 =>
    if ¬ x6 = 0 then
      fX20_rule_b100 l0 l1 l2 l3 l5 l7 s0 q4.2
    else
      (g_I 41 q4.2 l1 5).bind fun x9 =>
      fX20_rule_b109 l0 l1 l3 l5 l7 s0 x9 q4.2
theorem pX20_rule_b72 {w : eW} {d : Nat} (hd : 2 ≤ d + 1) {l0 : Nat} {l1 : Nat} {l2 : Int32} {l3 : Int64} {l5 : Int64} {l7 : Int32} {s0 : Int32} {h : eH} {q} (hf : fX20_rule_b72 l0 l1 l2 l3 l5 l7 s0 h = some q) : wp w (d + 1) YX20_rule 72 [some (.ref l0), some (.ref l1), some (.int l2), some (.long l3), none, some (.long l5), none, some (.int l7), none, none] [.int s0] h (e_is (e_rn c_I q)) := by
  unfold fX20_rule_b72 at hf
  refine w_istore dX20_rule_72 (by decide) (ls' := [some (.ref l0), some (.ref l1), some (.int l2), some (.long l3), none, some (.long l5), none, some (.int l7), some (.int s0), none]) rfl ?_
  refine w_aload_n dX20_rule_74 rfl rfl ?_
  obtain ⟨a1, b2, hf⟩ := Option.bind_eq_some_iff.mp hf
  refine GX20_31 b2 dX20_rule_75 rfl ?_
  refine w_iload_n dX20_rule_78 rfl rfl ?_
  refine w_iconst dX20_rule_79 (v := 2) (by decide) ?_
  obtain ⟨_, b3, hf⟩ := Option.bind_eq_some_iff.mp hf
  refine x_cnI hf (e_stV (Yc := YX7_isRunning) (ci := 6) (av := [.int l2, .int (2 : Int32)]) (st := []) dX20_rule_80 q3354 mX7_isRunning rfl (k_ok_some b3).1 (k_ok_some b3).2) mX7_isRunning.2.2.1 mX7_isRunning.2.2.2.2.1 (Nat.le_of_ble_eq_true rfl) (Nat.le_of_ble_eq_true rfl) (fun q hq => pX7_isRunning (by omega) hq) (fun q4 hf => ?_)
  refine w_if_eq 100 dX20_rule_83 (by decide) (fun c5 => ?_) (fun c5 => ?_)
  · replace hf := (if_pos (show q4.1 = 0 from c5)).symm.trans hf
    exact (pX20_rule_b100 hd hf).to ⟨rfl, rfl, rfl, rfl, rfl, rfl, rfl, trivial⟩
  · replace hf := (if_neg (show ¬ (q4.1 = 0) from c5)).symm.trans hf
    refine w_aload_n dX20_rule_86 rfl rfl ?_
    obtain ⟨x6, b7, hf⟩ := Option.bind_eq_some_iff.mp hf
    refine GX20_54 b7 dX20_rule_87 rfl ?_
    refine w_if_ne 100 dX20_rule_90 (by decide) (fun c8 => ?_) (fun c8 => ?_)
    · replace hf := (if_pos (show ¬ x6 = 0 from c8)).symm.trans hf
      exact (pX20_rule_b100 hd hf).to ⟨rfl, rfl, rfl, rfl, rfl, rfl, rfl, trivial⟩
    · replace hf := (if_neg (show ¬ (¬ x6 = 0) from (fun z => z c8))).symm.trans hf
      refine w_aload_n dX20_rule_93 rfl rfl ?_
      obtain ⟨x9, b10, hf⟩ := Option.bind_eq_some_iff.mp hf
      refine GX20_68 b10 dX20_rule_94 rfl ?_
      refine w_goto 109 dX20_rule_97 (by decide) ?_
      exact (pX20_rule_b109 hd hf).to ⟨rfl, rfl, rfl, rfl, rfl, rfl, trivial⟩
def fX20_rule_b63 (l0 : Nat) (l1 : Nat) (l2 : Int32) (l3 : Int64) (l5 : Int64) (l7 : Int32) (h : eH) : Option (Int32 × eH) :=
  (g_A 19 h l0 0).bind fun a1 =>
  (k_ok 6 h a1).bind fun _ =>
  (fX7_solid a1 l2 (1 : Int32) h).bind fun q4 =>
  fX20_rule_b72 l0 l1 l2 l3 l5 l7 q4.1 q4.2
theorem pX20_rule_b63 {w : eW} {d : Nat} (hd : 2 ≤ d + 1) {l0 : Nat} {l1 : Nat} {l2 : Int32} {l3 : Int64} {l5 : Int64} {l7 : Int32} {h : eH} {q} (hf : fX20_rule_b63 l0 l1 l2 l3 l5 l7 h = some q) : wp w (d + 1) YX20_rule 63 [some (.ref l0), some (.ref l1), some (.int l2), some (.long l3), none, some (.long l5), none, some (.int l7), none, none] [] h (e_is (e_rn c_I q)) := by
  unfold fX20_rule_b63 at hf
  refine w_aload_n dX20_rule_63 rfl rfl ?_
  obtain ⟨a1, b2, hf⟩ := Option.bind_eq_some_iff.mp hf
  refine GX20_31 b2 dX20_rule_64 rfl ?_
  refine w_iload_n dX20_rule_67 rfl rfl ?_
  refine w_iconst dX20_rule_68 (v := 1) (by decide) ?_
  obtain ⟨_, b3, hf⟩ := Option.bind_eq_some_iff.mp hf
  refine x_cnI hf (e_stV (Yc := YX7_solid) (ci := 6) (av := [.int l2, .int (1 : Int32)]) (st := []) dX20_rule_69 q3360 mX7_solid rfl (k_ok_some b3).1 (k_ok_some b3).2) mX7_solid.2.2.1 mX7_solid.2.2.2.2.1 (Nat.le_of_ble_eq_true rfl) (Nat.le_of_ble_eq_true rfl) (fun q hq => pX7_solid (by omega) hq) (fun q4 hf => ?_)
  exact (pX20_rule_b72 hd hf).to ⟨rfl, rfl, rfl, rfl, rfl, rfl, trivial⟩
def fX20_rule_b35 (l0 : Nat) (l1 : Nat) (l2 : Int32) (l3 : Int64) (l5 : Int64) (s0 : Int32) (h : eH) : Option (Int32 × eH) :=
  (g_A 19 h l0 0).bind fun a1 =>
  (k_ok 6 h a1).bind fun _ =>
  (fX7_isRunning a1 l2 (1 : Int32) h).bind fun q4 =>
  if q4.1 = 0 then
    fX20_rule_b63 l0 l1 l2 l3 l5 s0 q4.2
  else
    (g_I 41 q4.2 l1 2).bind fun x6 =>
    if ¬ x6 = 0 then
      fX20_rule_b63 l0 l1 l2 l3 l5 s0 q4.2
    else
      (g_I 41 q4.2 l1 4).bind fun x9 =>
      fX20_rule_b72 l0 l1 l2 l3 l5 s0 x9 q4.2
theorem pX20_rule_b35 {w : eW} {d : Nat} (hd : 2 ≤ d + 1) {l0 : Nat} {l1 : Nat} {l2 : Int32} {l3 : Int64} {l5 : Int64} {s0 : Int32} {h : eH} {q} (hf : fX20_rule_b35 l0 l1 l2 l3 l5 s0 h = some q) : wp w (d + 1) YX20_rule 35 [some (.ref l0), some (.ref l1), some (.int l2), some (.long l3), none, some (.long l5), none, none, none, none] [.int s0] h (e_is (e_rn c_I q)) := by
  unfold fX20_rule_b35 at hf
  refine w_istore dX20_rule_35 (by decide) (ls' := [some (.ref l0), some (.ref l1), some (.int l2), some (.long l3), none, some (.long l5), none, some (.int s0), none, none]) rfl ?_
  refine w_aload_n dX20_rule_37 rfl rfl ?_
  obtain ⟨a1, b2, hf⟩ := Option.bind_eq_some_iff.mp hf
  refine GX20_31 b2 dX20_rule_38 rfl ?_
  refine w_iload_n dX20_rule_41 rfl rfl ?_
  refine w_iconst dX20_rule_42 (v := 1) (by decide) ?_
  obtain ⟨_, b3, hf⟩ := Option.bind_eq_some_iff.mp hf
  refine x_cnI hf (e_stV (Yc := YX7_isRunning) (ci := 6) (av := [.int l2, .int (1 : Int32)]) (st := []) dX20_rule_43 q3354 mX7_isRunning rfl (k_ok_some b3).1 (k_ok_some b3).2) mX7_isRunning.2.2.1 mX7_isRunning.2.2.2.2.1 (Nat.le_of_ble_eq_true rfl) (Nat.le_of_ble_eq_true rfl) (fun q hq => pX7_isRunning (by omega) hq) (fun q4 hf => ?_)
  refine w_if_eq 63 dX20_rule_46 (by decide) (fun c5 => ?_) (fun c5 => ?_)
  · replace hf := (if_pos (show q4.1 = 0 from c5)).symm.trans hf
    exact (pX20_rule_b63 hd hf).to ⟨rfl, rfl, rfl, rfl, rfl, rfl, trivial⟩
  · replace hf := (if_neg (show ¬ (q4.1 = 0) from c5)).symm.trans hf
    refine w_aload_n dX20_rule_49 rfl rfl ?_
    obtain ⟨x6, b7, hf⟩ := Option.bind_eq_some_iff.mp hf
    refine GX20_54 b7 dX20_rule_50 rfl ?_
    refine w_if_ne 63 dX20_rule_53 (by decide) (fun c8 => ?_) (fun c8 => ?_)
    · replace hf := (if_pos (show ¬ x6 = 0 from c8)).symm.trans hf
      exact (pX20_rule_b63 hd hf).to ⟨rfl, rfl, rfl, rfl, rfl, rfl, trivial⟩
    · replace hf := (if_neg (show ¬ (¬ x6 = 0) from (fun z => z c8))).symm.trans hf
      refine w_aload_n dX20_rule_56 rfl rfl ?_
      obtain ⟨x9, b10, hf⟩ := Option.bind_eq_some_iff.mp hf
      refine GX20_65 b10 dX20_rule_57 rfl ?_
      refine w_goto 72 dX20_rule_60 (by decide) ?_
      exact (pX20_rule_b72 hd hf).to ⟨rfl, rfl, rfl, rfl, rfl, rfl, trivial⟩
def fX20_rule_b26 (l0 : Nat) (l1 : Nat) (l2 : Int32) (l3 : Int64) (l5 : Int64) (h : eH) : Option (Int32 × eH) :=
  (g_A 19 h l0 0).bind fun a1 =>
  (k_ok 6 h a1).bind fun _ =>
  (fX7_solid a1 l2 (0 : Int32) h).bind fun q4 =>
  fX20_rule_b35 l0 l1 l2 l3 l5 q4.1 q4.2
theorem pX20_rule_b26 {w : eW} {d : Nat} (hd : 2 ≤ d + 1) {l0 : Nat} {l1 : Nat} {l2 : Int32} {l3 : Int64} {l5 : Int64} {h : eH} {q} (hf : fX20_rule_b26 l0 l1 l2 l3 l5 h = some q) : wp w (d + 1) YX20_rule 26 [some (.ref l0), some (.ref l1), some (.int l2), some (.long l3), none, some (.long l5), none, none, none, none] [] h (e_is (e_rn c_I q)) := by
  unfold fX20_rule_b26 at hf
  refine w_aload_n dX20_rule_26 rfl rfl ?_
  obtain ⟨a1, b2, hf⟩ := Option.bind_eq_some_iff.mp hf
  refine GX20_31 b2 dX20_rule_27 rfl ?_
  refine w_iload_n dX20_rule_30 rfl rfl ?_
  refine w_iconst dX20_rule_31 (v := 0) (by decide) ?_
  obtain ⟨_, b3, hf⟩ := Option.bind_eq_some_iff.mp hf
  refine x_cnI hf (e_stV (Yc := YX7_solid) (ci := 6) (av := [.int l2, .int (0 : Int32)]) (st := []) dX20_rule_32 q3360 mX7_solid rfl (k_ok_some b3).1 (k_ok_some b3).2) mX7_solid.2.2.1 mX7_solid.2.2.2.2.1 (Nat.le_of_ble_eq_true rfl) (Nat.le_of_ble_eq_true rfl) (fun q hq => pX7_solid (by omega) hq) (fun q4 hf => ?_)
  exact (pX20_rule_b35 hd hf).to ⟨rfl, rfl, rfl, rfl, rfl, trivial⟩
def fX20_rule (this : Nat) (p0 : Nat) (p1 : Int32) (p2 : Int64) (p3 : Int64) (h : eH) : Option (Int32 × eH) :=
  (g_A 19 h this 0).bind fun a1 =>
  (k_ok 6 h a1).bind fun _ =>
  (fX7_isRunning a1 p1 (0 : Int32) h).bind fun q4 =>
  if q4.1 = 0 then
    fX20_rule_b26 this p0 p1 p2 p3 q4.2
  else
    (g_I 41 q4.2 p0 2).bind fun x6 =>
    if x6 = 0 then
      fX20_rule_b26 this p0 p1 p2 p3 q4.2
    else
      (g_I 41 q4.2 p0 3).bind fun x9 =>
      fX20_rule_b35 this p0 p1 p2 p3 x9 q4.2
theorem pX20_rule {w : eW} {d : Nat} (hd : 2 ≤ d) {this : Nat} {p0 : Nat} {p1 : Int32} {p2 : Int64} {p3 : Int64} {h : eH} {q} (hf : fX20_rule this p0 p1 p2 p3 h = some q) : wm w d YX20_rule [.ref this, .ref p0, .int p1, .long p2, .long p3] h (e_is (e_rn c_I q)) := by
  obtain ⟨d, rfl⟩ : ∃ e, d = e + 1 := ⟨d - 1, by omega⟩
  show wp w (d + 1) YX20_rule 0 [some (.ref this), some (.ref p0), some (.int p1), some (.long p2), none, some (.long p3), none, none, none, none] [] h _
  unfold fX20_rule at hf
  refine w_aload_n dX20_rule_0 rfl rfl ?_
  obtain ⟨a1, b2, hf⟩ := Option.bind_eq_some_iff.mp hf
  refine GX20_31 b2 dX20_rule_1 rfl ?_
  refine w_iload_n dX20_rule_4 rfl rfl ?_
  refine w_iconst dX20_rule_5 (v := 0) (by decide) ?_
  obtain ⟨_, b3, hf⟩ := Option.bind_eq_some_iff.mp hf
  refine x_cnI hf (e_stV (Yc := YX7_isRunning) (ci := 6) (av := [.int p1, .int (0 : Int32)]) (st := []) dX20_rule_6 q3354 mX7_isRunning rfl (k_ok_some b3).1 (k_ok_some b3).2) mX7_isRunning.2.2.1 mX7_isRunning.2.2.2.2.1 (Nat.le_of_ble_eq_true rfl) (Nat.le_of_ble_eq_true rfl) (fun q hq => pX7_isRunning (by omega) hq) (fun q4 hf => ?_)
  refine w_if_eq 26 dX20_rule_9 (by decide) (fun c5 => ?_) (fun c5 => ?_)
  · replace hf := (if_pos (show q4.1 = 0 from c5)).symm.trans hf
    exact (pX20_rule_b26 hd hf).to ⟨rfl, rfl, rfl, rfl, rfl, trivial⟩
  · replace hf := (if_neg (show ¬ (q4.1 = 0) from c5)).symm.trans hf
    refine w_aload_n dX20_rule_12 rfl rfl ?_
    obtain ⟨x6, b7, hf⟩ := Option.bind_eq_some_iff.mp hf
    refine GX20_54 b7 dX20_rule_13 rfl ?_
    refine w_if_eq 26 dX20_rule_16 (by decide) (fun c8 => ?_) (fun c8 => ?_)
    · replace hf := (if_pos (show x6 = 0 from c8)).symm.trans hf
      exact (pX20_rule_b26 hd hf).to ⟨rfl, rfl, rfl, rfl, rfl, trivial⟩
    · replace hf := (if_neg (show ¬ (x6 = 0) from c8)).symm.trans hf
      refine w_aload_n dX20_rule_19 rfl rfl ?_
      obtain ⟨x9, b10, hf⟩ := Option.bind_eq_some_iff.mp hf
      refine GX20_58 b10 dX20_rule_20 rfl ?_
      refine w_goto 35 dX20_rule_23 (by decide) ?_
      exact (pX20_rule_b35 hd hf).to ⟨rfl, rfl, rfl, rfl, rfl, trivial⟩
abbrev cX20_item : ByteArray := prog_11_method_5_code
def yX20_item : MethodName := ⟨RX20, "item", "(I)Z"⟩
def YX20_item : eY := (yX20_item, cX20_item, 9, (Option.some FieldType.boolean), [])
theorem mX20_item : e_mv YX20_item RX20 1 := ⟨q3336, qs131, q3337, by decide, by decide +kernel, (e_sig (by decide +kernel))⟩
theorem dX20_item_0 : decode cX20_item 0 = .ok (.aload_n 0, 1) := dc_42 (by decide +kernel)
theorem dX20_item_1 : decode cX20_item 1 = .ok (.getfield 17, 3) := dc_180 (a := 0) (b := 17) (n := 17) (by decide +kernel)
theorem dX20_item_4 : decode cX20_item 4 = .ok (.aload_n 0, 1) := dc_42 (by decide +kernel)
theorem dX20_item_5 : decode cX20_item 5 = .ok (.getfield 38, 3) := dc_180 (a := 0) (b := 38) (n := 38) (by decide +kernel)
theorem dX20_item_8 : decode cX20_item 8 = .ok (.iconst 1, 1) := dc_4 (by decide +kernel)
theorem dX20_item_9 : decode cX20_item 9 = .ok (.isub, 1) := dc_100 (by decide +kernel)
theorem dX20_item_10 : decode cX20_item 10 = .ok (.aaload, 1) := dc_50 (by decide +kernel)
theorem dX20_item_11 : decode cX20_item 11 = .ok (.astore_n 2, 1) := dc_77 (by decide +kernel)
theorem dX20_item_12 : decode cX20_item 12 = .ok (.aload_n 0, 1) := dc_42 (by decide +kernel)
theorem dX20_item_13 : decode cX20_item 13 = .ok (.getfield 21, 3) := dc_180 (a := 0) (b := 21) (n := 21) (by decide +kernel)
theorem dX20_item_16 : decode cX20_item 16 = .ok (.aload_n 0, 1) := dc_42 (by decide +kernel)
theorem dX20_item_17 : decode cX20_item 17 = .ok (.getfield 38, 3) := dc_180 (a := 0) (b := 38) (n := 38) (by decide +kernel)
theorem dX20_item_20 : decode cX20_item 20 = .ok (.iconst 1, 1) := dc_4 (by decide +kernel)
theorem dX20_item_21 : decode cX20_item 21 = .ok (.isub, 1) := dc_100 (by decide +kernel)
theorem dX20_item_22 : decode cX20_item 22 = .ok (.laload, 1) := dc_47 (by decide +kernel)
theorem dX20_item_23 : decode cX20_item 23 = .ok (.aload_n 2, 1) := dc_44 (by decide +kernel)
theorem dX20_item_24 : decode cX20_item 24 = .ok (.getfield 54, 3) := dc_180 (a := 0) (b := 54) (n := 54) (by decide +kernel)
theorem dX20_item_27 : decode cX20_item 27 = .ok (.ifCond .eq 7, 3) := dc_153 (a := 0) (b := 7) (v := 7) (by decide +kernel)
theorem dX20_item_30 : decode cX20_item 30 = .ok (.iconst 0, 1) := dc_3 (by decide +kernel)
theorem dX20_item_31 : decode cX20_item 31 = .ok (.goto 12, 3) := dc_167 (a := 0) (b := 12) (v := 12) (by decide +kernel)
theorem dX20_item_34 : decode cX20_item 34 = .ok (.aload_n 0, 1) := dc_42 (by decide +kernel)
theorem dX20_item_35 : decode cX20_item 35 = .ok (.getfield 31, 3) := dc_180 (a := 0) (b := 31) (n := 31) (by decide +kernel)
theorem dX20_item_38 : decode cX20_item 38 = .ok (.getfield 73, 3) := dc_180 (a := 0) (b := 73) (n := 73) (by decide +kernel)
theorem dX20_item_41 : decode cX20_item 41 = .ok (.iload_n 1, 1) := dc_27 (by decide +kernel)
theorem dX20_item_42 : decode cX20_item 42 = .ok (.iaload, 1) := dc_46 (by decide +kernel)
theorem dX20_item_43 : decode cX20_item 43 = .ok (.i2l, 1) := dc_133 (by decide +kernel)
theorem dX20_item_44 : decode cX20_item 44 = .ok (.ladd, 1) := dc_97 (by decide +kernel)
theorem dX20_item_45 : decode cX20_item 45 = .ok (.lstore_n 3, 1) := dc_66 (by decide +kernel)
theorem dX20_item_46 : decode cX20_item 46 = .ok (.aload_n 0, 1) := dc_42 (by decide +kernel)
theorem dX20_item_47 : decode cX20_item 47 = .ok (.getfield 24, 3) := dc_180 (a := 0) (b := 24) (n := 24) (by decide +kernel)
theorem dX20_item_50 : decode cX20_item 50 = .ok (.aload_n 0, 1) := dc_42 (by decide +kernel)
theorem dX20_item_51 : decode cX20_item 51 = .ok (.getfield 38, 3) := dc_180 (a := 0) (b := 38) (n := 38) (by decide +kernel)
theorem dX20_item_54 : decode cX20_item 54 = .ok (.iconst 1, 1) := dc_4 (by decide +kernel)
theorem dX20_item_55 : decode cX20_item 55 = .ok (.isub, 1) := dc_100 (by decide +kernel)
theorem dX20_item_56 : decode cX20_item 56 = .ok (.laload, 1) := dc_47 (by decide +kernel)
theorem dX20_item_57 : decode cX20_item 57 = .ok (.aload_n 2, 1) := dc_44 (by decide +kernel)
theorem dX20_item_58 : decode cX20_item 58 = .ok (.getfield 54, 3) := dc_180 (a := 0) (b := 54) (n := 54) (by decide +kernel)
theorem dX20_item_61 : decode cX20_item 61 = .ok (.ifCond .eq 22, 3) := dc_153 (a := 0) (b := 22) (v := 22) (by decide +kernel)
theorem dX20_item_64 : decode cX20_item 64 = .ok (.aload_n 0, 1) := dc_42 (by decide +kernel)
theorem dX20_item_65 : decode cX20_item 65 = .ok (.getfield 31, 3) := dc_180 (a := 0) (b := 31) (n := 31) (by decide +kernel)
theorem dX20_item_68 : decode cX20_item 68 = .ok (.getfield 73, 3) := dc_180 (a := 0) (b := 73) (n := 73) (by decide +kernel)
theorem dX20_item_71 : decode cX20_item 71 = .ok (.iload_n 1, 1) := dc_27 (by decide +kernel)
theorem dX20_item_72 : decode cX20_item 72 = .ok (.iaload, 1) := dc_46 (by decide +kernel)
theorem dX20_item_73 : decode cX20_item 73 = .ok (.i2l, 1) := dc_133 (by decide +kernel)
theorem dX20_item_74 : decode cX20_item 74 = .ok (.aload_n 2, 1) := dc_44 (by decide +kernel)
theorem dX20_item_75 : decode cX20_item 75 = .ok (.getfield 65, 3) := dc_180 (a := 0) (b := 65) (n := 65) (by decide +kernel)
theorem dX20_item_78 : decode cX20_item 78 = .ok (.i2l, 1) := dc_133 (by decide +kernel)
theorem dX20_item_79 : decode cX20_item 79 = .ok (.lsub, 1) := dc_101 (by decide +kernel)
theorem dX20_item_80 : decode cX20_item 80 = .ok (.goto 4, 3) := dc_167 (a := 0) (b := 4) (v := 4) (by decide +kernel)
theorem dX20_item_83 : decode cX20_item 83 = .ok (.lconst 0, 1) := dc_9 (by decide +kernel)
theorem dX20_item_84 : decode cX20_item 84 = .ok (.ladd, 1) := dc_97 (by decide +kernel)
theorem dX20_item_85 : decode cX20_item 85 = .ok (.lstore 5, 2) := dc_55 (a := 5) (by decide +kernel)
theorem dX20_item_87 : decode cX20_item 87 = .ok (.aload_n 0, 1) := dc_42 (by decide +kernel)
theorem dX20_item_88 : decode cX20_item 88 = .ok (.getfield 31, 3) := dc_180 (a := 0) (b := 31) (n := 31) (by decide +kernel)
theorem dX20_item_91 : decode cX20_item 91 = .ok (.iload_n 1, 1) := dc_27 (by decide +kernel)
theorem dX20_item_92 : decode cX20_item 92 = .ok (.invokevirtual 76, 3) := dc_182 (a := 0) (b := 76) (n := 76) (by decide +kernel)
theorem dX20_item_95 : decode cX20_item 95 = .ok (.tableswitch 186 0 4 #[33, 100, 186, 186, 110], 33) := by decide +kernel
theorem dX20_item_128 : decode cX20_item 128 = .ok (.aload_n 0, 1) := dc_42 (by decide +kernel)
theorem dX20_item_129 : decode cX20_item 129 = .ok (.aload_n 0, 1) := dc_42 (by decide +kernel)
theorem dX20_item_130 : decode cX20_item 130 = .ok (.getfield 31, 3) := dc_180 (a := 0) (b := 31) (n := 31) (by decide +kernel)
theorem dX20_item_133 : decode cX20_item 133 = .ok (.iload_n 1, 1) := dc_27 (by decide +kernel)
theorem dX20_item_134 : decode cX20_item 134 = .ok (.iconst 0, 1) := dc_3 (by decide +kernel)
theorem dX20_item_135 : decode cX20_item 135 = .ok (.invokevirtual 80, 3) := dc_182 (a := 0) (b := 80) (n := 80) (by decide +kernel)
theorem dX20_item_138 : decode cX20_item 138 = .ok (.lload_n 3, 1) := dc_33 (by decide +kernel)
theorem dX20_item_139 : decode cX20_item 139 = .ok (.aload_n 2, 1) := dc_44 (by decide +kernel)
theorem dX20_item_140 : decode cX20_item 140 = .ok (.getfield 54, 3) := dc_180 (a := 0) (b := 54) (n := 54) (by decide +kernel)
theorem dX20_item_143 : decode cX20_item 143 = .ok (.ifCond .eq 19, 3) := dc_153 (a := 0) (b := 19) (v := 19) (by decide +kernel)
theorem dX20_item_146 : decode cX20_item 146 = .ok (.lload 5, 2) := dc_22 (a := 5) (by decide +kernel)
theorem dX20_item_148 : decode cX20_item 148 = .ok (.aload_n 0, 1) := dc_42 (by decide +kernel)
theorem dX20_item_149 : decode cX20_item 149 = .ok (.getfield 31, 3) := dc_180 (a := 0) (b := 31) (n := 31) (by decide +kernel)
theorem dX20_item_152 : decode cX20_item 152 = .ok (.iload_n 1, 1) := dc_27 (by decide +kernel)
theorem dX20_item_153 : decode cX20_item 153 = .ok (.iconst 2, 1) := dc_5 (by decide +kernel)
theorem dX20_item_154 : decode cX20_item 154 = .ok (.invokevirtual 80, 3) := dc_182 (a := 0) (b := 80) (n := 80) (by decide +kernel)
theorem dX20_item_157 : decode cX20_item 157 = .ok (.i2l, 1) := dc_133 (by decide +kernel)
theorem dX20_item_158 : decode cX20_item 158 = .ok (.ladd, 1) := dc_97 (by decide +kernel)
theorem dX20_item_159 : decode cX20_item 159 = .ok (.goto 5, 3) := dc_167 (a := 0) (b := 5) (v := 5) (by decide +kernel)
theorem dX20_item_162 : decode cX20_item 162 = .ok (.lload 5, 2) := dc_22 (a := 5) (by decide +kernel)
theorem dX20_item_164 : decode cX20_item 164 = .ok (.aload_n 0, 1) := dc_42 (by decide +kernel)
theorem dX20_item_165 : decode cX20_item 165 = .ok (.getfield 31, 3) := dc_180 (a := 0) (b := 31) (n := 31) (by decide +kernel)
theorem dX20_item_168 : decode cX20_item 168 = .ok (.iload_n 1, 1) := dc_27 (by decide +kernel)
theorem dX20_item_169 : decode cX20_item 169 = .ok (.iconst 1, 1) := dc_4 (by decide +kernel)
theorem dX20_item_170 : decode cX20_item 170 = .ok (.invokevirtual 80, 3) := dc_182 (a := 0) (b := 80) (n := 80) (by decide +kernel)
theorem dX20_item_173 : decode cX20_item 173 = .ok (.aload_n 0, 1) := dc_42 (by decide +kernel)
theorem dX20_item_174 : decode cX20_item 174 = .ok (.getfield 31, 3) := dc_180 (a := 0) (b := 31) (n := 31) (by decide +kernel)
theorem dX20_item_177 : decode cX20_item 177 = .ok (.iload_n 1, 1) := dc_27 (by decide +kernel)
theorem dX20_item_178 : decode cX20_item 178 = .ok (.iconst 2, 1) := dc_5 (by decide +kernel)
theorem dX20_item_179 : decode cX20_item 179 = .ok (.invokevirtual 80, 3) := dc_182 (a := 0) (b := 80) (n := 80) (by decide +kernel)
theorem dX20_item_182 : decode cX20_item 182 = .ok (.aload_n 0, 1) := dc_42 (by decide +kernel)
theorem dX20_item_183 : decode cX20_item 183 = .ok (.getfield 31, 3) := dc_180 (a := 0) (b := 31) (n := 31) (by decide +kernel)
theorem dX20_item_186 : decode cX20_item 186 = .ok (.iload_n 1, 1) := dc_27 (by decide +kernel)
theorem dX20_item_187 : decode cX20_item 187 = .ok (.iconst 3, 1) := dc_6 (by decide +kernel)
theorem dX20_item_188 : decode cX20_item 188 = .ok (.invokevirtual 80, 3) := dc_182 (a := 0) (b := 80) (n := 80) (by decide +kernel)
theorem dX20_item_191 : decode cX20_item 191 = .ok (.invokevirtual 69, 3) := dc_182 (a := 0) (b := 69) (n := 69) (by decide +kernel)
theorem dX20_item_194 : decode cX20_item 194 = .ok (.ireturn, 1) := dc_172 (by decide +kernel)
theorem dX20_item_195 : decode cX20_item 195 = .ok (.aload_n 0, 1) := dc_42 (by decide +kernel)
theorem dX20_item_196 : decode cX20_item 196 = .ok (.aload_n 2, 1) := dc_44 (by decide +kernel)
theorem dX20_item_197 : decode cX20_item 197 = .ok (.iload_n 1, 1) := dc_27 (by decide +kernel)
theorem dX20_item_198 : decode cX20_item 198 = .ok (.lload_n 3, 1) := dc_33 (by decide +kernel)
theorem dX20_item_199 : decode cX20_item 199 = .ok (.lload 5, 2) := dc_22 (a := 5) (by decide +kernel)
theorem dX20_item_201 : decode cX20_item 201 = .ok (.invokevirtual 83, 3) := dc_182 (a := 0) (b := 83) (n := 83) (by decide +kernel)
theorem dX20_item_204 : decode cX20_item 204 = .ok (.ireturn, 1) := dc_172 (by decide +kernel)
theorem dX20_item_205 : decode cX20_item 205 = .ok (.aload_n 0, 1) := dc_42 (by decide +kernel)
theorem dX20_item_206 : decode cX20_item 206 = .ok (.getfield 35, 3) := dc_180 (a := 0) (b := 35) (n := 35) (by decide +kernel)
theorem dX20_item_209 : decode cX20_item 209 = .ok (.aload_n 0, 1) := dc_42 (by decide +kernel)
theorem dX20_item_210 : decode cX20_item 210 = .ok (.getfield 31, 3) := dc_180 (a := 0) (b := 31) (n := 31) (by decide +kernel)
theorem dX20_item_213 : decode cX20_item 213 = .ok (.iload_n 1, 1) := dc_27 (by decide +kernel)
theorem dX20_item_214 : decode cX20_item 214 = .ok (.iconst 0, 1) := dc_3 (by decide +kernel)
theorem dX20_item_215 : decode cX20_item 215 = .ok (.invokevirtual 80, 3) := dc_182 (a := 0) (b := 80) (n := 80) (by decide +kernel)
theorem dX20_item_218 : decode cX20_item 218 = .ok (.aaload, 1) := dc_50 (by decide +kernel)
theorem dX20_item_219 : decode cX20_item 219 = .ok (.astore 7, 2) := dc_58 (a := 7) (by decide +kernel)
theorem dX20_item_221 : decode cX20_item 221 = .ok (.aload_n 0, 1) := dc_42 (by decide +kernel)
theorem dX20_item_222 : decode cX20_item 222 = .ok (.getfield 31, 3) := dc_180 (a := 0) (b := 31) (n := 31) (by decide +kernel)
theorem dX20_item_225 : decode cX20_item 225 = .ok (.iload_n 1, 1) := dc_27 (by decide +kernel)
theorem dX20_item_226 : decode cX20_item 226 = .ok (.iconst 1, 1) := dc_4 (by decide +kernel)
theorem dX20_item_227 : decode cX20_item 227 = .ok (.invokevirtual 80, 3) := dc_182 (a := 0) (b := 80) (n := 80) (by decide +kernel)
theorem dX20_item_230 : decode cX20_item 230 = .ok (.istore 8, 2) := dc_54 (a := 8) (by decide +kernel)
theorem dX20_item_232 : decode cX20_item 232 = .ok (.aload_n 0, 1) := dc_42 (by decide +kernel)
theorem dX20_item_233 : decode cX20_item 233 = .ok (.aload 7, 2) := dc_25 (a := 7) (by decide +kernel)
theorem dX20_item_235 : decode cX20_item 235 = .ok (.aload_n 2, 1) := dc_44 (by decide +kernel)
theorem dX20_item_236 : decode cX20_item 236 = .ok (.getfield 54, 3) := dc_180 (a := 0) (b := 54) (n := 54) (by decide +kernel)
theorem dX20_item_239 : decode cX20_item 239 = .ok (.ifCond .eq 11, 3) := dc_153 (a := 0) (b := 11) (v := 11) (by decide +kernel)
theorem dX20_item_242 : decode cX20_item 242 = .ok (.lload_n 3, 1) := dc_33 (by decide +kernel)
theorem dX20_item_243 : decode cX20_item 243 = .ok (.iload 8, 2) := dc_21 (a := 8) (by decide +kernel)
theorem dX20_item_245 : decode cX20_item 245 = .ok (.i2l, 1) := dc_133 (by decide +kernel)
theorem dX20_item_246 : decode cX20_item 246 = .ok (.ladd, 1) := dc_97 (by decide +kernel)
theorem dX20_item_247 : decode cX20_item 247 = .ok (.goto 4, 3) := dc_167 (a := 0) (b := 4) (v := 4) (by decide +kernel)
theorem dX20_item_250 : decode cX20_item 250 = .ok (.lload_n 3, 1) := dc_33 (by decide +kernel)
theorem dX20_item_251 : decode cX20_item 251 = .ok (.aload_n 2, 1) := dc_44 (by decide +kernel)
theorem dX20_item_252 : decode cX20_item 252 = .ok (.getfield 54, 3) := dc_180 (a := 0) (b := 54) (n := 54) (by decide +kernel)
theorem dX20_item_255 : decode cX20_item 255 = .ok (.ifCond .eq 15, 3) := dc_153 (a := 0) (b := 15) (v := 15) (by decide +kernel)
theorem dX20_item_258 : decode cX20_item 258 = .ok (.lload 5, 2) := dc_22 (a := 5) (by decide +kernel)
theorem dX20_item_260 : decode cX20_item 260 = .ok (.aload 7, 2) := dc_25 (a := 7) (by decide +kernel)
theorem dX20_item_262 : decode cX20_item 262 = .ok (.getfield 65, 3) := dc_180 (a := 0) (b := 65) (n := 65) (by decide +kernel)
theorem dX20_item_265 : decode cX20_item 265 = .ok (.i2l, 1) := dc_133 (by decide +kernel)
theorem dX20_item_266 : decode cX20_item 266 = .ok (.ladd, 1) := dc_97 (by decide +kernel)
theorem dX20_item_267 : decode cX20_item 267 = .ok (.goto 9, 3) := dc_167 (a := 0) (b := 9) (v := 9) (by decide +kernel)
theorem dX20_item_270 : decode cX20_item 270 = .ok (.lload 5, 2) := dc_22 (a := 5) (by decide +kernel)
theorem dX20_item_272 : decode cX20_item 272 = .ok (.iload 8, 2) := dc_21 (a := 8) (by decide +kernel)
theorem dX20_item_274 : decode cX20_item 274 = .ok (.i2l, 1) := dc_133 (by decide +kernel)
theorem dX20_item_275 : decode cX20_item 275 = .ok (.ladd, 1) := dc_97 (by decide +kernel)
theorem dX20_item_276 : decode cX20_item 276 = .ok (.invokevirtual 87, 3) := dc_182 (a := 0) (b := 87) (n := 87) (by decide +kernel)
theorem dX20_item_279 : decode cX20_item 279 = .ok (.iconst 1, 1) := dc_4 (by decide +kernel)
theorem dX20_item_280 : decode cX20_item 280 = .ok (.ireturn, 1) := dc_172 (by decide +kernel)
theorem dX20_item_281 : decode cX20_item 281 = .ok (.iconst 1, 1) := dc_4 (by decide +kernel)
theorem dX20_item_282 : decode cX20_item 282 = .ok (.ireturn, 1) := dc_172 (by decide +kernel)
theorem GX20_35 {w : eW} {d : Nat} {Y : eY} {pc : Nat} {ls : eL} {st : List Value} {h : eH} {Q : eO → eH → Prop} {a : Nat} {x : Nat} (hf : g_A 19 h a 1 = some x) (hd : decode Y.2.1 pc = .ok (.getfield 35, 3)) (hY : Y.1.cls = RX20) (kk : wp w d Y (pc + 3) ls (.ref x :: st) h Q) : wp w d Y pc ls (.ref a :: st) h Q := x_gA (ci := 19) (k := 1) hf hd rfl (by decide) (by rw [hY]; exact q1202) kk
theorem GX20_73 {w : eW} {d : Nat} {Y : eY} {pc : Nat} {ls : eL} {st : List Value} {h : eH} {Q : eO → eH → Prop} {a : Nat} {x : Nat} (hf : g_A 6 h a 2 = some x) (hd : decode Y.2.1 pc = .ok (.getfield 73, 3)) (hY : Y.1.cls = RX20) (kk : wp w d Y (pc + 3) ls (.ref x :: st) h Q) : wp w d Y pc ls (.ref a :: st) h Q := x_gAN (ci := 6) (k := 2) hf hd rfl (by decide) (by rw [hY]; exact q623) kk
def fX20_item_b164 (l0 : Nat) (l1 : Int32) (s0 : Nat) (s1 : Int32) (s2 : Int64) (s3 : Int64) (h : eH) : Option (Int32 × eH) :=
  (g_A 19 h l0 0).bind fun a1 =>
  (k_ok 6 h a1).bind fun _ =>
  (fX7_of a1 l1 (1 : Int32) h).bind fun q4 =>
  (g_A 19 q4.2 l0 0).bind fun a5 =>
  (k_ok 6 q4.2 a5).bind fun _ =>
  (fX7_of a5 l1 (2 : Int32) q4.2).bind fun q8 =>
  (g_A 19 q8.2 l0 0).bind fun a9 =>
  (k_ok 6 q8.2 a9).bind fun _ =>
  (fX7_of a9 l1 (3 : Int32) q8.2).bind fun q12 =>
  (k_ok 19 q12.2 s0).bind fun _ =>
  (fX20_mark s0 s1 s2 s3 q4.1 q8.1 q12.1 q12.2).bind fun q14 =>
  z_r q14.1 (q14.1, q14.2)
theorem pX20_item_b164 {w : eW} {d : Nat} (hd : 3 ≤ d + 1) {l0 : Nat} {l1 : Int32} {s0 : Nat} {s1 : Int32} {s2 : Int64} {s3 : Int64} {h : eH} {q} (hf : fX20_item_b164 l0 l1 s0 s1 s2 s3 h = some q) : wp w (d + 1) YX20_item 164 [some (.ref l0), some (.int l1), none, none, none, none, none, none, none] [.long s3, .long s2, .int s1, .ref s0] h (e_is (e_rn c_I q)) := by
  unfold fX20_item_b164 at hf
  refine w_aload_n dX20_item_164 rfl rfl ?_
  obtain ⟨a1, b2, hf⟩ := Option.bind_eq_some_iff.mp hf
  refine GX20_31 b2 dX20_item_165 rfl ?_
  refine w_iload_n dX20_item_168 rfl rfl ?_
  refine w_iconst dX20_item_169 (v := 1) (by decide) ?_
  obtain ⟨_, b3, hf⟩ := Option.bind_eq_some_iff.mp hf
  refine x_cnI hf (e_stV (Yc := YX7_of) (ci := 6) (av := [.int l1, .int (1 : Int32)]) (st := [.long s3, .long s2, .int s1, .ref s0]) dX20_item_170 q3342 mX7_of rfl (k_ok_some b3).1 (k_ok_some b3).2) mX7_of.2.2.1 mX7_of.2.2.2.2.1 (Nat.le_of_ble_eq_true rfl) (Nat.le_of_ble_eq_true rfl) (fun q hq => pX7_of (by omega) hq) (fun q4 hf => ?_)
  refine w_aload_n dX20_item_173 rfl rfl ?_
  obtain ⟨a5, b6, hf⟩ := Option.bind_eq_some_iff.mp hf
  refine GX20_31 b6 dX20_item_174 rfl ?_
  refine w_iload_n dX20_item_177 rfl rfl ?_
  refine w_iconst dX20_item_178 (v := 2) (by decide) ?_
  obtain ⟨_, b7, hf⟩ := Option.bind_eq_some_iff.mp hf
  refine x_cnI hf (e_stV (Yc := YX7_of) (ci := 6) (av := [.int l1, .int (2 : Int32)]) (st := [.int q4.1, .long s3, .long s2, .int s1, .ref s0]) dX20_item_179 q3342 mX7_of rfl (k_ok_some b7).1 (k_ok_some b7).2) mX7_of.2.2.1 mX7_of.2.2.2.2.1 (Nat.le_of_ble_eq_true rfl) (Nat.le_of_ble_eq_true rfl) (fun q hq => pX7_of (by omega) hq) (fun q8 hf => ?_)
  refine w_aload_n dX20_item_182 rfl rfl ?_
  obtain ⟨a9, b10, hf⟩ := Option.bind_eq_some_iff.mp hf
  refine GX20_31 b10 dX20_item_183 rfl ?_
  refine w_iload_n dX20_item_186 rfl rfl ?_
  refine w_iconst dX20_item_187 (v := 3) (by decide) ?_
  obtain ⟨_, b11, hf⟩ := Option.bind_eq_some_iff.mp hf
  refine x_cnI hf (e_stV (Yc := YX7_of) (ci := 6) (av := [.int l1, .int (3 : Int32)]) (st := [.int q8.1, .int q4.1, .long s3, .long s2, .int s1, .ref s0]) dX20_item_188 q3342 mX7_of rfl (k_ok_some b11).1 (k_ok_some b11).2) mX7_of.2.2.1 mX7_of.2.2.2.2.1 (Nat.le_of_ble_eq_true rfl) (Nat.le_of_ble_eq_true rfl) (fun q hq => pX7_of (by omega) hq) (fun q12 hf => ?_)
  obtain ⟨_, b13, hf⟩ := Option.bind_eq_some_iff.mp hf
  refine x_cnI hf (e_stV (Yc := YX20_mark) (ci := 19) (av := [.int s1, .long s2, .long s3, .int q4.1, .int q8.1, .int q12.1]) (st := []) dX20_item_191 q3346 mX20_mark rfl (k_ok_some b13).1 (k_ok_some b13).2) mX20_mark.2.2.1 mX20_mark.2.2.2.2.1 (Nat.le_of_ble_eq_true rfl) (Nat.le_of_ble_eq_true rfl) (fun q hq => pX20_mark (by omega) hq) (fun q14 hf => ?_)
  obtain ⟨b15, rfl⟩ := z_r_some hf
  exact w_iret dX20_item_194 rfl b15 rfl
def fX20_item_b276 (s0 : Nat) (s1 : Nat) (s2 : Int64) (s3 : Int64) (h : eH) : Option (Int32 × eH) :=
  (k_ok 19 h s0).bind fun _ =>
  (fX20_enter s0 s1 s2 s3 h).bind fun q2 =>
  some ((1 : Int32), q2.2)
theorem pX20_item_b276 {w : eW} {d : Nat} (hd : 3 ≤ d + 1) {s0 : Nat} {s1 : Nat} {s2 : Int64} {s3 : Int64} {h : eH} {q} (hf : fX20_item_b276 s0 s1 s2 s3 h = some q) : wp w (d + 1) YX20_item 276 [none, none, none, none, none, none, none, none, none] [.long s3, .long s2, .ref s1, .ref s0] h (e_is (e_rn c_I q)) := by
  unfold fX20_item_b276 at hf
  obtain ⟨_, b1, hf⟩ := Option.bind_eq_some_iff.mp hf
  refine x_cnV hf (e_stV (Yc := YX20_enter) (ci := 19) (av := [.ref s1, .long s2, .long s3]) (st := []) dX20_item_276 q3330 mX20_enter rfl (k_ok_some b1).1 (k_ok_some b1).2) mX20_enter.2.2.1 mX20_enter.2.2.2.2.1 (Nat.le_of_ble_eq_true rfl) (Nat.le_of_ble_eq_true rfl) (fun q hq => pX20_enter (by omega) hq) (fun q2 hf => ?_)
  refine w_iconst dX20_item_279 (v := 1) (by decide) ?_
  cases hf
  exact w_iret dX20_item_280 rfl rfl rfl
def fX20_item_b251 (l2 : Nat) (l5 : Int64) (l7 : Nat) (l8 : Int32) (s0 : Nat) (s1 : Nat) (s2 : Int64) (h : eH) : Option (Int32 × eH) :=
  (g_I 41 h l2 2).bind fun x1 =>
  if x1 = 0 then
    fX20_item_b276 s0 s1 s2 (l5 + (l8).toInt64) h
  else
    (g_I 41 h l7 4).bind fun x4 =>
    fX20_item_b276 s0 s1 s2 (l5 + (x4).toInt64) h
theorem pX20_item_b251 {w : eW} {d : Nat} (hd : 3 ≤ d + 1) {l2 : Nat} {l5 : Int64} {l7 : Nat} {l8 : Int32} {s0 : Nat} {s1 : Nat} {s2 : Int64} {h : eH} {q} (hf : fX20_item_b251 l2 l5 l7 l8 s0 s1 s2 h = some q) : wp w (d + 1) YX20_item 251 [none, none, some (.ref l2), none, none, some (.long l5), none, some (.ref l7), some (.int l8)] [.long s2, .ref s1, .ref s0] h (e_is (e_rn c_I q)) := by
  unfold fX20_item_b251 at hf
  refine w_aload_n dX20_item_251 rfl rfl ?_
  obtain ⟨x1, b2, hf⟩ := Option.bind_eq_some_iff.mp hf
  refine GX20_54 b2 dX20_item_252 rfl ?_
  refine w_if_eq 270 dX20_item_255 (by decide) (fun c3 => ?_) (fun c3 => ?_)
  · replace hf := (if_pos (show x1 = 0 from c3)).symm.trans hf
    refine w_lload dX20_item_270 rfl ?_
    refine w_iload dX20_item_272 rfl ?_
    refine w_i2l dX20_item_274 ?_
    refine w_ladd dX20_item_275 ?_
    exact (pX20_item_b276 hd hf).to trivial
  · replace hf := (if_neg (show ¬ (x1 = 0) from c3)).symm.trans hf
    refine w_lload dX20_item_258 rfl ?_
    refine w_aload dX20_item_260 rfl ?_
    obtain ⟨x4, b5, hf⟩ := Option.bind_eq_some_iff.mp hf
    refine GX20_65 b5 dX20_item_262 rfl ?_
    refine w_i2l dX20_item_265 ?_
    refine w_ladd dX20_item_266 ?_
    refine w_goto 276 dX20_item_267 (by decide) ?_
    exact (pX20_item_b276 hd hf).to trivial
def fX20_item_b84 (l0 : Nat) (l1 : Int32) (l2 : Nat) (l3 : Int64) (s0 : Int64) (s1 : Int64) (h : eH) : Option (Int32 × eH) :=
  (g_A 19 h l0 0).bind fun a1 =>
  (k_ok 6 h a1).bind fun _ =>
  (fX7_kind a1 l1 h).bind fun q4 =>
  if q4.1 = (0 : Int32) then
    (g_A 19 q4.2 l0 0).bind fun a6 =>
    (k_ok 6 q4.2 a6).bind fun _ =>
    (fX7_of a6 l1 (0 : Int32) q4.2).bind fun q9 =>
    (g_I 41 q9.2 l2 2).bind fun x10 =>
    if x10 = 0 then
      fX20_item_b164 l0 l1 l0 q9.1 l3 (s0 + s1) q9.2
    else
      (g_A 19 q9.2 l0 0).bind fun a13 =>
      (k_ok 6 q9.2 a13).bind fun _ =>
      (fX7_of a13 l1 (2 : Int32) q9.2).bind fun q16 =>
      fX20_item_b164 l0 l1 l0 q9.1 l3 ((s0 + s1) + (q16.1).toInt64) q16.2
  else
  if q4.1 = (1 : Int32) then
    (k_ok 19 q4.2 l0).bind fun _ =>
    (fX20_rule l0 l2 l1 l3 (s0 + s1) q4.2).bind fun q19 =>
    z_r q19.1 (q19.1, q19.2)
  else
  if q4.1 = (2 : Int32) then
    some ((1 : Int32), q4.2)
  else
  if q4.1 = (3 : Int32) then
    some ((1 : Int32), q4.2)
  else
  if q4.1 = (4 : Int32) then
    (g_A 19 q4.2 l0 1).bind fun a24 =>
    (g_A 19 q4.2 l0 0).bind fun a26 =>
    (k_ok 6 q4.2 a26).bind fun _ =>
    (fX7_of a26 l1 (0 : Int32) q4.2).bind fun q29 =>
    (r_A 104 q29.2 a24 q29.1).bind fun a30 =>
    (g_A 19 q29.2 l0 0).bind fun a32 =>
    (k_ok 6 q29.2 a32).bind fun _ =>
    (fX7_of a32 l1 (1 : Int32) q29.2).bind fun q35 =>
    (g_I 41 q35.2 l2 2).bind fun x36 =>
    if x36 = 0 then
      fX20_item_b251 l2 (s0 + s1) a30 q35.1 l0 a30 l3 q35.2
    else
      fX20_item_b251 l2 (s0 + s1) a30 q35.1 l0 a30 (l3 + (q35.1).toInt64) q35.2
  else
  some ((1 : Int32), q4.2)
theorem pX20_item_b84 {w : eW} {d : Nat} (hd : 3 ≤ d + 1) {l0 : Nat} {l1 : Int32} {l2 : Nat} {l3 : Int64} {s0 : Int64} {s1 : Int64} {h : eH} {q} (hf : fX20_item_b84 l0 l1 l2 l3 s0 s1 h = some q) : wp w (d + 1) YX20_item 84 [some (.ref l0), some (.int l1), some (.ref l2), some (.long l3), none, none, none, none, none] [.long s1, .long s0] h (e_is (e_rn c_I q)) := by
  unfold fX20_item_b84 at hf
  refine w_ladd dX20_item_84 ?_
  refine w_lstore dX20_item_85 (by decide) (ls' := [some (.ref l0), some (.int l1), some (.ref l2), some (.long l3), none, some (.long (s0 + s1)), none, none, none]) rfl ?_
  refine w_aload_n dX20_item_87 rfl rfl ?_
  obtain ⟨a1, b2, hf⟩ := Option.bind_eq_some_iff.mp hf
  refine GX20_31 b2 dX20_item_88 rfl ?_
  refine w_iload_n dX20_item_91 rfl rfl ?_
  obtain ⟨_, b3, hf⟩ := Option.bind_eq_some_iff.mp hf
  refine x_cnI hf (e_stV (Yc := YX7_kind) (ci := 6) (av := [.int l1]) (st := []) dX20_item_92 q3338 mX7_kind rfl (k_ok_some b3).1 (k_ok_some b3).2) mX7_kind.2.2.1 mX7_kind.2.2.2.2.1 (Nat.le_of_ble_eq_true rfl) (Nat.le_of_ble_eq_true rfl) (fun q hq => pX7_kind (by omega) hq) (fun q4 hf => ?_)
  by_cases c5 : q4.1 = (0 : Int32)
  · replace hf := (if_pos c5).symm.trans hf
    refine w_tableIn 128 dX20_item_95 (by rw [c5]; decide) (by rw [c5]; decide) (by rw [c5]; rfl) (by decide) ?_
    refine w_aload_n dX20_item_128 rfl rfl ?_
    refine w_aload_n dX20_item_129 rfl rfl ?_
    obtain ⟨a6, b7, hf⟩ := Option.bind_eq_some_iff.mp hf
    refine GX20_31 b7 dX20_item_130 rfl ?_
    refine w_iload_n dX20_item_133 rfl rfl ?_
    refine w_iconst dX20_item_134 (v := 0) (by decide) ?_
    obtain ⟨_, b8, hf⟩ := Option.bind_eq_some_iff.mp hf
    refine x_cnI hf (e_stV (Yc := YX7_of) (ci := 6) (av := [.int l1, .int (0 : Int32)]) (st := [.ref l0]) dX20_item_135 q3342 mX7_of rfl (k_ok_some b8).1 (k_ok_some b8).2) mX7_of.2.2.1 mX7_of.2.2.2.2.1 (Nat.le_of_ble_eq_true rfl) (Nat.le_of_ble_eq_true rfl) (fun q hq => pX7_of (by omega) hq) (fun q9 hf => ?_)
    refine w_lload_n dX20_item_138 rfl rfl ?_
    refine w_aload_n dX20_item_139 rfl rfl ?_
    obtain ⟨x10, b11, hf⟩ := Option.bind_eq_some_iff.mp hf
    refine GX20_54 b11 dX20_item_140 rfl ?_
    refine w_if_eq 162 dX20_item_143 (by decide) (fun c12 => ?_) (fun c12 => ?_)
    · replace hf := (if_pos (show x10 = 0 from c12)).symm.trans hf
      refine w_lload dX20_item_162 rfl ?_
      exact (pX20_item_b164 hd hf).to ⟨rfl, rfl, trivial⟩
    · replace hf := (if_neg (show ¬ (x10 = 0) from c12)).symm.trans hf
      refine w_lload dX20_item_146 rfl ?_
      refine w_aload_n dX20_item_148 rfl rfl ?_
      obtain ⟨a13, b14, hf⟩ := Option.bind_eq_some_iff.mp hf
      refine GX20_31 b14 dX20_item_149 rfl ?_
      refine w_iload_n dX20_item_152 rfl rfl ?_
      refine w_iconst dX20_item_153 (v := 2) (by decide) ?_
      obtain ⟨_, b15, hf⟩ := Option.bind_eq_some_iff.mp hf
      refine x_cnI hf (e_stV (Yc := YX7_of) (ci := 6) (av := [.int l1, .int (2 : Int32)]) (st := [.long (s0 + s1), .long l3, .int q9.1, .ref l0]) dX20_item_154 q3342 mX7_of rfl (k_ok_some b15).1 (k_ok_some b15).2) mX7_of.2.2.1 mX7_of.2.2.2.2.1 (Nat.le_of_ble_eq_true rfl) (Nat.le_of_ble_eq_true rfl) (fun q hq => pX7_of (by omega) hq) (fun q16 hf => ?_)
      refine w_i2l dX20_item_157 ?_
      refine w_ladd dX20_item_158 ?_
      refine w_goto 164 dX20_item_159 (by decide) ?_
      exact (pX20_item_b164 hd hf).to ⟨rfl, rfl, trivial⟩
  replace hf := (if_neg c5).symm.trans hf
  by_cases c17 : q4.1 = (1 : Int32)
  · replace hf := (if_pos c17).symm.trans hf
    refine w_tableIn 195 dX20_item_95 (by rw [c17]; decide) (by rw [c17]; decide) (by rw [c17]; rfl) (by decide) ?_
    refine w_aload_n dX20_item_195 rfl rfl ?_
    refine w_aload_n dX20_item_196 rfl rfl ?_
    refine w_iload_n dX20_item_197 rfl rfl ?_
    refine w_lload_n dX20_item_198 rfl rfl ?_
    refine w_lload dX20_item_199 rfl ?_
    obtain ⟨_, b18, hf⟩ := Option.bind_eq_some_iff.mp hf
    refine x_cnI hf (e_stV (Yc := YX20_rule) (ci := 19) (av := [.ref l2, .int l1, .long l3, .long (s0 + s1)]) (st := []) dX20_item_201 q3350 mX20_rule rfl (k_ok_some b18).1 (k_ok_some b18).2) mX20_rule.2.2.1 mX20_rule.2.2.2.2.1 (Nat.le_of_ble_eq_true rfl) (Nat.le_of_ble_eq_true rfl) (fun q hq => pX20_rule (by omega) hq) (fun q19 hf => ?_)
    obtain ⟨b20, rfl⟩ := z_r_some hf
    exact w_iret dX20_item_204 rfl b20 rfl
  replace hf := (if_neg c17).symm.trans hf
  by_cases c21 : q4.1 = (2 : Int32)
  · replace hf := (if_pos c21).symm.trans hf
    refine w_tableIn 281 dX20_item_95 (by rw [c21]; decide) (by rw [c21]; decide) (by rw [c21]; rfl) (by decide) ?_
    refine w_iconst dX20_item_281 (v := 1) (by decide) ?_
    cases hf
    exact w_iret dX20_item_282 rfl rfl rfl
  replace hf := (if_neg c21).symm.trans hf
  by_cases c22 : q4.1 = (3 : Int32)
  · replace hf := (if_pos c22).symm.trans hf
    refine w_tableIn 281 dX20_item_95 (by rw [c22]; decide) (by rw [c22]; decide) (by rw [c22]; rfl) (by decide) ?_
    refine w_iconst dX20_item_281 (v := 1) (by decide) ?_
    cases hf
    exact w_iret dX20_item_282 rfl rfl rfl
  replace hf := (if_neg c22).symm.trans hf
  by_cases c23 : q4.1 = (4 : Int32)
  · replace hf := (if_pos c23).symm.trans hf
    refine w_tableIn 205 dX20_item_95 (by rw [c23]; decide) (by rw [c23]; decide) (by rw [c23]; rfl) (by decide) ?_
    refine w_aload_n dX20_item_205 rfl rfl ?_
    obtain ⟨a24, b25, hf⟩ := Option.bind_eq_some_iff.mp hf
    refine GX20_35 b25 dX20_item_206 rfl ?_
    refine w_aload_n dX20_item_209 rfl rfl ?_
    obtain ⟨a26, b27, hf⟩ := Option.bind_eq_some_iff.mp hf
    refine GX20_31 b27 dX20_item_210 rfl ?_
    refine w_iload_n dX20_item_213 rfl rfl ?_
    refine w_iconst dX20_item_214 (v := 0) (by decide) ?_
    obtain ⟨_, b28, hf⟩ := Option.bind_eq_some_iff.mp hf
    refine x_cnI hf (e_stV (Yc := YX7_of) (ci := 6) (av := [.int l1, .int (0 : Int32)]) (st := [.ref a24]) dX20_item_215 q3342 mX7_of rfl (k_ok_some b28).1 (k_ok_some b28).2) mX7_of.2.2.1 mX7_of.2.2.2.2.1 (Nat.le_of_ble_eq_true rfl) (Nat.le_of_ble_eq_true rfl) (fun q hq => pX7_of (by omega) hq) (fun q29 hf => ?_)
    obtain ⟨a30, b31, hf⟩ := Option.bind_eq_some_iff.mp hf
    refine x_rA (c := 104) (by decide) b31 dX20_item_218 ?_
    refine w_astore dX20_item_219 (by decide) (ls' := [some (.ref l0), some (.int l1), some (.ref l2), some (.long l3), none, some (.long (s0 + s1)), none, some (.ref a30), none]) rfl ?_
    refine w_aload_n dX20_item_221 rfl rfl ?_
    obtain ⟨a32, b33, hf⟩ := Option.bind_eq_some_iff.mp hf
    refine GX20_31 b33 dX20_item_222 rfl ?_
    refine w_iload_n dX20_item_225 rfl rfl ?_
    refine w_iconst dX20_item_226 (v := 1) (by decide) ?_
    obtain ⟨_, b34, hf⟩ := Option.bind_eq_some_iff.mp hf
    refine x_cnI hf (e_stV (Yc := YX7_of) (ci := 6) (av := [.int l1, .int (1 : Int32)]) (st := []) dX20_item_227 q3342 mX7_of rfl (k_ok_some b34).1 (k_ok_some b34).2) mX7_of.2.2.1 mX7_of.2.2.2.2.1 (Nat.le_of_ble_eq_true rfl) (Nat.le_of_ble_eq_true rfl) (fun q hq => pX7_of (by omega) hq) (fun q35 hf => ?_)
    refine w_istore dX20_item_230 (by decide) (ls' := [some (.ref l0), some (.int l1), some (.ref l2), some (.long l3), none, some (.long (s0 + s1)), none, some (.ref a30), some (.int q35.1)]) rfl ?_
    refine w_aload_n dX20_item_232 rfl rfl ?_
    refine w_aload dX20_item_233 rfl ?_
    refine w_aload_n dX20_item_235 rfl rfl ?_
    obtain ⟨x36, b37, hf⟩ := Option.bind_eq_some_iff.mp hf
    refine GX20_54 b37 dX20_item_236 rfl ?_
    refine w_if_eq 250 dX20_item_239 (by decide) (fun c38 => ?_) (fun c38 => ?_)
    · replace hf := (if_pos (show x36 = 0 from c38)).symm.trans hf
      refine w_lload_n dX20_item_250 rfl rfl ?_
      exact (pX20_item_b251 hd hf).to ⟨rfl, rfl, rfl, rfl, trivial⟩
    · replace hf := (if_neg (show ¬ (x36 = 0) from c38)).symm.trans hf
      refine w_lload_n dX20_item_242 rfl rfl ?_
      refine w_iload dX20_item_243 rfl ?_
      refine w_i2l dX20_item_245 ?_
      refine w_ladd dX20_item_246 ?_
      refine w_goto 251 dX20_item_247 (by decide) ?_
      exact (pX20_item_b251 hd hf).to ⟨rfl, rfl, rfl, rfl, trivial⟩
  replace hf := (if_neg c23).symm.trans hf
  refine w_tableOut 281 dX20_item_95 (by have n0 := sw_ne c5 (by decide : (0 : Int32).toInt = 0); have n1 := sw_ne c17 (by decide : (1 : Int32).toInt = 1); have n2 := sw_ne c21 (by decide : (2 : Int32).toInt = 2); have n3 := sw_ne c22 (by decide : (3 : Int32).toInt = 3); have n4 := sw_ne c23 (by decide : (4 : Int32).toInt = 4); omega) (by decide) ?_
  refine w_iconst dX20_item_281 (v := 1) (by decide) ?_
  cases hf
  exact w_iret dX20_item_282 rfl rfl rfl
def fX20_item_b43 (l0 : Nat) (l1 : Int32) (l2 : Nat) (s0 : Int64) (s1 : Int32) (h : eH) : Option (Int32 × eH) :=
  (g_A 19 h l0 6).bind fun a1 =>
  (g_I 19 h l0 8).bind fun x3 =>
  (r_J h a1 (x3 - (1 : Int32))).bind fun x5 =>
  (g_I 41 h l2 2).bind fun x7 =>
  if x7 = 0 then
    fX20_item_b84 l0 l1 l2 (s0 + (s1).toInt64) x5 (0 : Int64) h
  else
    (g_A 19 h l0 0).bind fun a10 =>
    (g_A 6 h a10 2).bind fun a12 =>
    (r_I 100 h a12 l1).bind fun x14 =>
    (g_I 41 h l2 4).bind fun x16 =>
    fX20_item_b84 l0 l1 l2 (s0 + (s1).toInt64) x5 ((x14).toInt64 - (x16).toInt64) h
theorem pX20_item_b43 {w : eW} {d : Nat} (hd : 3 ≤ d + 1) {l0 : Nat} {l1 : Int32} {l2 : Nat} {s0 : Int64} {s1 : Int32} {h : eH} {q} (hf : fX20_item_b43 l0 l1 l2 s0 s1 h = some q) : wp w (d + 1) YX20_item 43 [some (.ref l0), some (.int l1), some (.ref l2), none, none, none, none, none, none] [.int s1, .long s0] h (e_is (e_rn c_I q)) := by
  unfold fX20_item_b43 at hf
  refine w_i2l dX20_item_43 ?_
  refine w_ladd dX20_item_44 ?_
  refine w_lstore_n dX20_item_45 rfl (by decide) (ls' := [some (.ref l0), some (.int l1), some (.ref l2), some (.long (s0 + (s1).toInt64)), none, none, none, none, none]) rfl ?_
  refine w_aload_n dX20_item_46 rfl rfl ?_
  obtain ⟨a1, b2, hf⟩ := Option.bind_eq_some_iff.mp hf
  refine GX20_24 b2 dX20_item_47 rfl ?_
  refine w_aload_n dX20_item_50 rfl rfl ?_
  obtain ⟨x3, b4, hf⟩ := Option.bind_eq_some_iff.mp hf
  refine GX20_38 b4 dX20_item_51 rfl ?_
  refine w_iconst dX20_item_54 (v := 1) (by decide) ?_
  refine w_isub dX20_item_55 ?_
  obtain ⟨x5, b6, hf⟩ := Option.bind_eq_some_iff.mp hf
  refine x_rJ b6 dX20_item_56 ?_
  refine w_aload_n dX20_item_57 rfl rfl ?_
  obtain ⟨x7, b8, hf⟩ := Option.bind_eq_some_iff.mp hf
  refine GX20_54 b8 dX20_item_58 rfl ?_
  refine w_if_eq 83 dX20_item_61 (by decide) (fun c9 => ?_) (fun c9 => ?_)
  · replace hf := (if_pos (show x7 = 0 from c9)).symm.trans hf
    refine w_lconst dX20_item_83 (v := 0) (by decide) ?_
    exact (pX20_item_b84 hd hf).to ⟨rfl, rfl, rfl, rfl, trivial⟩
  · replace hf := (if_neg (show ¬ (x7 = 0) from c9)).symm.trans hf
    refine w_aload_n dX20_item_64 rfl rfl ?_
    obtain ⟨a10, b11, hf⟩ := Option.bind_eq_some_iff.mp hf
    refine GX20_31 b11 dX20_item_65 rfl ?_
    obtain ⟨a12, b13, hf⟩ := Option.bind_eq_some_iff.mp hf
    refine GX20_73 b13 dX20_item_68 rfl ?_
    refine w_iload_n dX20_item_71 rfl rfl ?_
    obtain ⟨x14, b15, hf⟩ := Option.bind_eq_some_iff.mp hf
    refine x_rI b15 dX20_item_72 ?_
    refine w_i2l dX20_item_73 ?_
    refine w_aload_n dX20_item_74 rfl rfl ?_
    obtain ⟨x16, b17, hf⟩ := Option.bind_eq_some_iff.mp hf
    refine GX20_65 b17 dX20_item_75 rfl ?_
    refine w_i2l dX20_item_78 ?_
    refine w_lsub dX20_item_79 ?_
    refine w_goto 84 dX20_item_80 (by decide) ?_
    exact (pX20_item_b84 hd hf).to ⟨rfl, rfl, rfl, rfl, trivial⟩
def fX20_item (this : Nat) (p0 : Int32) (h : eH) : Option (Int32 × eH) :=
  (g_A 19 h this 4).bind fun a1 =>
  (g_I 19 h this 8).bind fun x3 =>
  (r_A 104 h a1 (x3 - (1 : Int32))).bind fun a5 =>
  (g_A 19 h this 5).bind fun a7 =>
  (g_I 19 h this 8).bind fun x9 =>
  (r_J h a7 (x9 - (1 : Int32))).bind fun x11 =>
  (g_I 41 h a5 2).bind fun x13 =>
  if x13 = 0 then
    (g_A 19 h this 0).bind fun a16 =>
    (g_A 6 h a16 2).bind fun a18 =>
    (r_I 100 h a18 p0).bind fun x20 =>
    fX20_item_b43 this p0 a5 x11 x20 h
  else
    fX20_item_b43 this p0 a5 x11 (0 : Int32) h
theorem pX20_item {w : eW} {d : Nat} (hd : 3 ≤ d) {this : Nat} {p0 : Int32} {h : eH} {q} (hf : fX20_item this p0 h = some q) : wm w d YX20_item [.ref this, .int p0] h (e_is (e_rn c_I q)) := by
  obtain ⟨d, rfl⟩ : ∃ e, d = e + 1 := ⟨d - 1, by omega⟩
  show wp w (d + 1) YX20_item 0 [some (.ref this), some (.int p0), none, none, none, none, none, none, none] [] h _
  unfold fX20_item at hf
  refine w_aload_n dX20_item_0 rfl rfl ?_
  obtain ⟨a1, b2, hf⟩ := Option.bind_eq_some_iff.mp hf
  refine GX20_17 b2 dX20_item_1 rfl ?_
  refine w_aload_n dX20_item_4 rfl rfl ?_
  obtain ⟨x3, b4, hf⟩ := Option.bind_eq_some_iff.mp hf
  refine GX20_38 b4 dX20_item_5 rfl ?_
  refine w_iconst dX20_item_8 (v := 1) (by decide) ?_
  refine w_isub dX20_item_9 ?_
  obtain ⟨a5, b6, hf⟩ := Option.bind_eq_some_iff.mp hf
  refine x_rA (c := 104) (by decide) b6 dX20_item_10 ?_
  refine w_astore_n dX20_item_11 rfl (by decide) (ls' := [some (.ref this), some (.int p0), some (.ref a5), none, none, none, none, none, none]) rfl ?_
  refine w_aload_n dX20_item_12 rfl rfl ?_
  obtain ⟨a7, b8, hf⟩ := Option.bind_eq_some_iff.mp hf
  refine GX20_21 b8 dX20_item_13 rfl ?_
  refine w_aload_n dX20_item_16 rfl rfl ?_
  obtain ⟨x9, b10, hf⟩ := Option.bind_eq_some_iff.mp hf
  refine GX20_38 b10 dX20_item_17 rfl ?_
  refine w_iconst dX20_item_20 (v := 1) (by decide) ?_
  refine w_isub dX20_item_21 ?_
  obtain ⟨x11, b12, hf⟩ := Option.bind_eq_some_iff.mp hf
  refine x_rJ b12 dX20_item_22 ?_
  refine w_aload_n dX20_item_23 rfl rfl ?_
  obtain ⟨x13, b14, hf⟩ := Option.bind_eq_some_iff.mp hf
  refine GX20_54 b14 dX20_item_24 rfl ?_
  refine w_if_eq 34 dX20_item_27 (by decide) (fun c15 => ?_) (fun c15 => ?_)
  · replace hf := (if_pos (show x13 = 0 from c15)).symm.trans hf
    refine w_aload_n dX20_item_34 rfl rfl ?_
    obtain ⟨a16, b17, hf⟩ := Option.bind_eq_some_iff.mp hf
    refine GX20_31 b17 dX20_item_35 rfl ?_
    obtain ⟨a18, b19, hf⟩ := Option.bind_eq_some_iff.mp hf
    refine GX20_73 b19 dX20_item_38 rfl ?_
    refine w_iload_n dX20_item_41 rfl rfl ?_
    obtain ⟨x20, b21, hf⟩ := Option.bind_eq_some_iff.mp hf
    refine x_rI b21 dX20_item_42 ?_
    exact (pX20_item_b43 hd hf).to ⟨rfl, rfl, rfl, trivial⟩
  · replace hf := (if_neg (show ¬ (x13 = 0) from c15)).symm.trans hf
    refine w_iconst dX20_item_30 (v := 0) (by decide) ?_
    refine w_goto 43 dX20_item_31 (by decide) ?_
    exact (pX20_item_b43 hd hf).to ⟨rfl, rfl, rfl, trivial⟩
abbrev cX20_lay : ByteArray := prog_11_method_7_code
def yX20_lay : MethodName := ⟨RX20, "lay", "(LTypeHouse$Box;JJ)Z"⟩
def YX20_lay : eY := (yX20_lay, cX20_lay, 8, (Option.some FieldType.boolean), [])
theorem mX20_lay : e_mv YX20_lay RX20 3 := ⟨q3327, q3328, q3329, by decide, by decide +kernel, (e_sig (by decide +kernel))⟩
theorem dX20_lay_0 : decode cX20_lay 0 = .ok (.aload_n 0, 1) := dc_42 (by decide +kernel)
theorem dX20_lay_1 : decode cX20_lay 1 = .ok (.iconst 0, 1) := dc_3 (by decide +kernel)
theorem dX20_lay_2 : decode cX20_lay 2 = .ok (.putfield 38, 3) := dc_181 (a := 0) (b := 38) (n := 38) (by decide +kernel)
theorem dX20_lay_5 : decode cX20_lay 5 = .ok (.aload_n 0, 1) := dc_42 (by decide +kernel)
theorem dX20_lay_6 : decode cX20_lay 6 = .ok (.aload_n 1, 1) := dc_43 (by decide +kernel)
theorem dX20_lay_7 : decode cX20_lay 7 = .ok (.lload_n 2, 1) := dc_32 (by decide +kernel)
theorem dX20_lay_8 : decode cX20_lay 8 = .ok (.lload 4, 2) := dc_22 (a := 4) (by decide +kernel)
theorem dX20_lay_10 : decode cX20_lay 10 = .ok (.invokevirtual 87, 3) := dc_182 (a := 0) (b := 87) (n := 87) (by decide +kernel)
theorem dX20_lay_13 : decode cX20_lay 13 = .ok (.iconst 1, 1) := dc_4 (by decide +kernel)
theorem dX20_lay_14 : decode cX20_lay 14 = .ok (.istore 6, 2) := dc_54 (a := 6) (by decide +kernel)
theorem dX20_lay_16 : decode cX20_lay 16 = .ok (.iload 6, 2) := dc_21 (a := 6) (by decide +kernel)
theorem dX20_lay_18 : decode cX20_lay 18 = .ok (.ifCond .eq 72, 3) := dc_153 (a := 0) (b := 72) (v := 72) (by decide +kernel)
theorem dX20_lay_21 : decode cX20_lay 21 = .ok (.aload_n 0, 1) := dc_42 (by decide +kernel)
theorem dX20_lay_22 : decode cX20_lay 22 = .ok (.getfield 38, 3) := dc_180 (a := 0) (b := 38) (n := 38) (by decide +kernel)
theorem dX20_lay_25 : decode cX20_lay 25 = .ok (.ifCond .le 65, 3) := dc_158 (a := 0) (b := 65) (v := 65) (by decide +kernel)
theorem dX20_lay_28 : decode cX20_lay 28 = .ok (.aload_n 0, 1) := dc_42 (by decide +kernel)
theorem dX20_lay_29 : decode cX20_lay 29 = .ok (.getfield 38, 3) := dc_180 (a := 0) (b := 38) (n := 38) (by decide +kernel)
theorem dX20_lay_32 : decode cX20_lay 32 = .ok (.iconst 1, 1) := dc_4 (by decide +kernel)
theorem dX20_lay_33 : decode cX20_lay 33 = .ok (.isub, 1) := dc_100 (by decide +kernel)
theorem dX20_lay_34 : decode cX20_lay 34 = .ok (.istore 7, 2) := dc_54 (a := 7) (by decide +kernel)
theorem dX20_lay_36 : decode cX20_lay 36 = .ok (.aload_n 0, 1) := dc_42 (by decide +kernel)
theorem dX20_lay_37 : decode cX20_lay 37 = .ok (.getfield 27, 3) := dc_180 (a := 0) (b := 27) (n := 27) (by decide +kernel)
theorem dX20_lay_40 : decode cX20_lay 40 = .ok (.iload 7, 2) := dc_21 (a := 7) (by decide +kernel)
theorem dX20_lay_42 : decode cX20_lay 42 = .ok (.iaload, 1) := dc_46 (by decide +kernel)
theorem dX20_lay_43 : decode cX20_lay 43 = .ok (.aload_n 0, 1) := dc_42 (by decide +kernel)
theorem dX20_lay_44 : decode cX20_lay 44 = .ok (.getfield 17, 3) := dc_180 (a := 0) (b := 17) (n := 17) (by decide +kernel)
theorem dX20_lay_47 : decode cX20_lay 47 = .ok (.iload 7, 2) := dc_21 (a := 7) (by decide +kernel)
theorem dX20_lay_49 : decode cX20_lay 49 = .ok (.aaload, 1) := dc_50 (by decide +kernel)
theorem dX20_lay_50 : decode cX20_lay 50 = .ok (.getfield 91, 3) := dc_180 (a := 0) (b := 91) (n := 91) (by decide +kernel)
theorem dX20_lay_53 : decode cX20_lay 53 = .ok (.if_icmp .ne 16, 3) := dc_160 (a := 0) (b := 16) (v := 16) (by decide +kernel)
theorem dX20_lay_56 : decode cX20_lay 56 = .ok (.aload_n 0, 1) := dc_42 (by decide +kernel)
theorem dX20_lay_57 : decode cX20_lay 57 = .ok (.dup, 1) := dc_89 (by decide +kernel)
theorem dX20_lay_58 : decode cX20_lay 58 = .ok (.getfield 38, 3) := dc_180 (a := 0) (b := 38) (n := 38) (by decide +kernel)
theorem dX20_lay_61 : decode cX20_lay 61 = .ok (.iconst 1, 1) := dc_4 (by decide +kernel)
theorem dX20_lay_62 : decode cX20_lay 62 = .ok (.isub, 1) := dc_100 (by decide +kernel)
theorem dX20_lay_63 : decode cX20_lay 63 = .ok (.putfield 38, 3) := dc_181 (a := 0) (b := 38) (n := 38) (by decide +kernel)
theorem dX20_lay_66 : decode cX20_lay 66 = .ok (.goto 21, 3) := dc_167 (a := 0) (b := 21) (v := 21) (by decide +kernel)
theorem dX20_lay_69 : decode cX20_lay 69 = .ok (.aload_n 0, 1) := dc_42 (by decide +kernel)
theorem dX20_lay_70 : decode cX20_lay 70 = .ok (.aload_n 0, 1) := dc_42 (by decide +kernel)
theorem dX20_lay_71 : decode cX20_lay 71 = .ok (.getfield 27, 3) := dc_180 (a := 0) (b := 27) (n := 27) (by decide +kernel)
theorem dX20_lay_74 : decode cX20_lay 74 = .ok (.iload 7, 2) := dc_21 (a := 7) (by decide +kernel)
theorem dX20_lay_76 : decode cX20_lay 76 = .ok (.dup2, 1) := dc_92 (by decide +kernel)
theorem dX20_lay_77 : decode cX20_lay 77 = .ok (.iaload, 1) := dc_46 (by decide +kernel)
theorem dX20_lay_78 : decode cX20_lay 78 = .ok (.dup_x2, 1) := dc_91 (by decide +kernel)
theorem dX20_lay_79 : decode cX20_lay 79 = .ok (.iconst 1, 1) := dc_4 (by decide +kernel)
theorem dX20_lay_80 : decode cX20_lay 80 = .ok (.iadd, 1) := dc_96 (by decide +kernel)
theorem dX20_lay_81 : decode cX20_lay 81 = .ok (.iastore, 1) := dc_79 (by decide +kernel)
theorem dX20_lay_82 : decode cX20_lay 82 = .ok (.invokevirtual 94, 3) := dc_182 (a := 0) (b := 94) (n := 94) (by decide +kernel)
theorem dX20_lay_85 : decode cX20_lay 85 = .ok (.istore 6, 2) := dc_54 (a := 6) (by decide +kernel)
theorem dX20_lay_87 : decode cX20_lay 87 = .ok (.goto (-71), 3) := dc_167 (a := 255) (b := 185) (v := -71) (by decide +kernel)
theorem dX20_lay_90 : decode cX20_lay 90 = .ok (.iload 6, 2) := dc_21 (a := 6) (by decide +kernel)
theorem dX20_lay_92 : decode cX20_lay 92 = .ok (.ireturn, 1) := dc_172 (by decide +kernel)
theorem GX20_91 {w : eW} {d : Nat} {Y : eY} {pc : Nat} {ls : eL} {st : List Value} {h : eH} {Q : eO → eH → Prop} {a : Nat} {x : Int32} (hf : g_I 41 h a 1 = some x) (hd : decode Y.2.1 pc = .ok (.getfield 91, 3)) (hY : Y.1.cls = RX20) (kk : wp w d Y (pc + 3) ls (.int x :: st) h Q) : wp w d Y pc ls (.ref a :: st) h Q := x_gIN (ci := 41) (k := 1) hf hd rfl (by decide) (by rw [hY]; exact q3508) kk
def fX20_lay_b87 (N : Nat) (k16 : Nat → Int32 → eH → Option (Int32 × eH)) (l0 : Nat) (l6 : Int32) (h : eH) : Option (Int32 × eH) :=
  k16 l0 l6 h
theorem pX20_lay_b87 {w : eW} {d : Nat} (hd : 4 ≤ d + 1) {N : Nat} {k16 : Nat → Int32 → eH → Option (Int32 × eH)} (hk16 : ∀ l0 l6 h q, k16 l0 l6 h = some q → wp w (d + 1) YX20_lay 16 [some (.ref l0), none, none, none, none, none, some (.int l6), none] [] h (e_is (e_rn c_I q))) {l0 : Nat} {l6 : Int32} {h : eH} {q} (hf : fX20_lay_b87 N k16 l0 l6 h = some q) : wp w (d + 1) YX20_lay 87 [some (.ref l0), none, none, none, none, none, some (.int l6), none] [] h (e_is (e_rn c_I q)) := by
  unfold fX20_lay_b87 at hf
  refine w_goto 16 dX20_lay_87 (by decide) ?_
  exact (hk16 _ _ _ _ hf).to ⟨rfl, rfl, trivial⟩
def fX20_lay_b90 (N : Nat) (l6 : Int32) (h : eH) : Option (Int32 × eH) :=
  z_r l6 (l6, h)
theorem pX20_lay_b90 {w : eW} {d : Nat} (hd : 4 ≤ d + 1) {N : Nat} {l6 : Int32} {h : eH} {q} (hf : fX20_lay_b90 N l6 h = some q) : wp w (d + 1) YX20_lay 90 [none, none, none, none, none, none, some (.int l6), none] [] h (e_is (e_rn c_I q)) := by
  unfold fX20_lay_b90 at hf
  refine w_iload dX20_lay_90 rfl ?_
  obtain ⟨b1, rfl⟩ := z_r_some hf
  exact w_iret dX20_lay_92 rfl b1 rfl
def fX20_lay_b16 (N : Nat) : Nat → Nat → Int32 → eH → Option (Int32 × eH)
  | 0, _, _, _ => none
  | n + 1, l0, l6, h =>
    if l6 = 0 then
      fX20_lay_b90 N l6 h
    else
      (g_I 19 h l0 8).bind fun x2 =>
      if x2 ≤ 0 then
        fX20_lay_b90 N l6 h
      else
        (g_I 19 h l0 8).bind fun x5 =>
        (g_A 19 h l0 7).bind fun a7 =>
        (r_I 100 h a7 (x5 - (1 : Int32))).bind fun x9 =>
        (g_A 19 h l0 4).bind fun a11 =>
        (r_A 104 h a11 (x5 - (1 : Int32))).bind fun a13 =>
        (g_I 41 h a13 1).bind fun x15 =>
        if ¬ x9 = x15 then
          (g_A 19 h l0 7).bind fun a18 =>
          (r_I 100 h a18 (x5 - (1 : Int32))).bind fun x20 =>
          (q_V 100 h a18 (x5 - (1 : Int32)) (.int (x20 + (1 : Int32)))).bind fun h22 =>
          (k_ok 19 h22 l0).bind fun _ =>
          (fX20_item l0 x20 h22).bind fun q25 =>
          fX20_lay_b87 N (fX20_lay_b16 N n) l0 q25.1 q25.2
        else
          (g_I 19 h l0 8).bind fun x26 =>
          (p_V 19 h l0 8 (.int (x26 - (1 : Int32)))).bind fun h28 =>
          fX20_lay_b87 N (fX20_lay_b16 N n) l0 l6 h28
theorem pX20_lay_b16 {w : eW} {d : Nat} (hd : 4 ≤ d + 1) {N : Nat} : ∀ (n : Nat) l0 l6 h q, fX20_lay_b16 N n l0 l6 h = some q → wp w (d + 1) YX20_lay 16 [some (.ref l0), none, none, none, none, none, some (.int l6), none] [] h (e_is (e_rn c_I q)) := by
  intro n
  induction n with
  | zero => intro l0 l6 h q hf; simp [fX20_lay_b16] at hf
  | succ n ih =>
    intro l0 l6 h q hf
    rw [fX20_lay_b16] at hf
    refine w_iload dX20_lay_16 rfl ?_
    refine w_if_eq 90 dX20_lay_18 (by decide) (fun c1 => ?_) (fun c1 => ?_)
    · replace hf := (if_pos (show l6 = 0 from c1)).symm.trans hf
      exact (pX20_lay_b90 hd hf).to ⟨rfl, trivial⟩
    · replace hf := (if_neg (show ¬ (l6 = 0) from c1)).symm.trans hf
      refine w_aload_n dX20_lay_21 rfl rfl ?_
      obtain ⟨x2, b3, hf⟩ := Option.bind_eq_some_iff.mp hf
      refine GX20_38 b3 dX20_lay_22 rfl ?_
      refine w_if_le 90 dX20_lay_25 (by decide) (fun c4 => ?_) (fun c4 => ?_)
      · replace hf := (if_pos (show x2 ≤ 0 from c4)).symm.trans hf
        exact (pX20_lay_b90 hd hf).to ⟨rfl, trivial⟩
      · replace hf := (if_neg (show ¬ (x2 ≤ 0) from c4)).symm.trans hf
        refine w_aload_n dX20_lay_28 rfl rfl ?_
        obtain ⟨x5, b6, hf⟩ := Option.bind_eq_some_iff.mp hf
        refine GX20_38 b6 dX20_lay_29 rfl ?_
        refine w_iconst dX20_lay_32 (v := 1) (by decide) ?_
        refine w_isub dX20_lay_33 ?_
        refine w_istore dX20_lay_34 (by decide) (ls' := [some (.ref l0), none, none, none, none, none, some (.int l6), some (.int (x5 - (1 : Int32)))]) rfl ?_
        refine w_aload_n dX20_lay_36 rfl rfl ?_
        obtain ⟨a7, b8, hf⟩ := Option.bind_eq_some_iff.mp hf
        refine GX20_27 b8 dX20_lay_37 rfl ?_
        refine w_iload dX20_lay_40 rfl ?_
        obtain ⟨x9, b10, hf⟩ := Option.bind_eq_some_iff.mp hf
        refine x_rI b10 dX20_lay_42 ?_
        refine w_aload_n dX20_lay_43 rfl rfl ?_
        obtain ⟨a11, b12, hf⟩ := Option.bind_eq_some_iff.mp hf
        refine GX20_17 b12 dX20_lay_44 rfl ?_
        refine w_iload dX20_lay_47 rfl ?_
        obtain ⟨a13, b14, hf⟩ := Option.bind_eq_some_iff.mp hf
        refine x_rA (c := 104) (by decide) b14 dX20_lay_49 ?_
        obtain ⟨x15, b16, hf⟩ := Option.bind_eq_some_iff.mp hf
        refine GX20_91 b16 dX20_lay_50 rfl ?_
        refine w_icmp_ne 69 dX20_lay_53 (by decide) (fun c17 => ?_) (fun c17 => ?_)
        · replace hf := (if_pos (show ¬ x9 = x15 from c17)).symm.trans hf
          refine w_aload_n dX20_lay_69 rfl rfl ?_
          refine w_aload_n dX20_lay_70 rfl rfl ?_
          obtain ⟨a18, b19, hf⟩ := Option.bind_eq_some_iff.mp hf
          refine GX20_27 b19 dX20_lay_71 rfl ?_
          refine w_iload dX20_lay_74 rfl ?_
          refine w_dup2_11 dX20_lay_76 rfl rfl ?_
          obtain ⟨x20, b21, hf⟩ := Option.bind_eq_some_iff.mp hf
          refine x_rI b21 dX20_lay_77 ?_
          refine w_dup_x2 dX20_lay_78 rfl rfl rfl ?_
          refine w_iconst dX20_lay_79 (v := 1) (by decide) ?_
          refine w_iadd dX20_lay_80 ?_
          obtain ⟨h22, b23, hf⟩ := Option.bind_eq_some_iff.mp hf
          refine x_qI b23 dX20_lay_81 ?_
          obtain ⟨_, b24, hf⟩ := Option.bind_eq_some_iff.mp hf
          refine x_cnI hf (e_stV (Yc := YX20_item) (ci := 19) (av := [.int x20]) (st := []) dX20_lay_82 q3334 mX20_item rfl (k_ok_some b24).1 (k_ok_some b24).2) mX20_item.2.2.1 mX20_item.2.2.2.2.1 (Nat.le_of_ble_eq_true rfl) (Nat.le_of_ble_eq_true rfl) (fun q hq => pX20_item (by omega) hq) (fun q25 hf => ?_)
          refine w_istore dX20_lay_85 (by decide) (ls' := [some (.ref l0), none, none, none, none, none, some (.int q25.1), some (.int (x5 - (1 : Int32)))]) rfl ?_
          exact (pX20_lay_b87 hd ih hf).to ⟨rfl, rfl, trivial⟩
        · replace hf := (if_neg (show ¬ (¬ x9 = x15) from (fun z => z c17))).symm.trans hf
          refine w_aload_n dX20_lay_56 rfl rfl ?_
          refine w_dup dX20_lay_57 rfl ?_
          obtain ⟨x26, b27, hf⟩ := Option.bind_eq_some_iff.mp hf
          refine GX20_38 b27 dX20_lay_58 rfl ?_
          refine w_iconst dX20_lay_61 (v := 1) (by decide) ?_
          refine w_isub dX20_lay_62 ?_
          obtain ⟨h28, b29, hf⟩ := Option.bind_eq_some_iff.mp hf
          refine SX20_38 b29 dX20_lay_63 rfl ?_
          refine w_goto 87 dX20_lay_66 (by decide) ?_
          exact (pX20_lay_b87 hd ih hf).to ⟨rfl, rfl, trivial⟩
def fX20_lay (N : Nat) (this : Nat) (p0 : Nat) (p1 : Int64) (p2 : Int64) (h : eH) : Option (Int32 × eH) :=
  (p_V 19 h this 8 (.int (0 : Int32))).bind fun h1 =>
  (k_ok 19 h1 this).bind fun _ =>
  (fX20_enter this p0 p1 p2 h1).bind fun q4 =>
  fX20_lay_b16 N N this (1 : Int32) q4.2
theorem pX20_lay {w : eW} {d : Nat} (hd : 4 ≤ d) {N : Nat} {this : Nat} {p0 : Nat} {p1 : Int64} {p2 : Int64} {h : eH} {q} (hf : fX20_lay N this p0 p1 p2 h = some q) : wm w d YX20_lay [.ref this, .ref p0, .long p1, .long p2] h (e_is (e_rn c_I q)) := by
  obtain ⟨d, rfl⟩ : ∃ e, d = e + 1 := ⟨d - 1, by omega⟩
  show wp w (d + 1) YX20_lay 0 [some (.ref this), some (.ref p0), some (.long p1), none, some (.long p2), none, none, none] [] h _
  unfold fX20_lay at hf
  refine w_aload_n dX20_lay_0 rfl rfl ?_
  refine w_iconst dX20_lay_1 (v := 0) (by decide) ?_
  obtain ⟨h1, b2, hf⟩ := Option.bind_eq_some_iff.mp hf
  refine SX20_38 b2 dX20_lay_2 rfl ?_
  refine w_aload_n dX20_lay_5 rfl rfl ?_
  refine w_aload_n dX20_lay_6 rfl rfl ?_
  refine w_lload_n dX20_lay_7 rfl rfl ?_
  refine w_lload dX20_lay_8 rfl ?_
  obtain ⟨_, b3, hf⟩ := Option.bind_eq_some_iff.mp hf
  refine x_cnV hf (e_stV (Yc := YX20_enter) (ci := 19) (av := [.ref p0, .long p1, .long p2]) (st := []) dX20_lay_10 q3330 mX20_enter rfl (k_ok_some b3).1 (k_ok_some b3).2) mX20_enter.2.2.1 mX20_enter.2.2.2.2.1 (Nat.le_of_ble_eq_true rfl) (Nat.le_of_ble_eq_true rfl) (fun q hq => pX20_enter (by omega) hq) (fun q4 hf => ?_)
  refine w_iconst dX20_lay_13 (v := 1) (by decide) ?_
  refine w_istore dX20_lay_14 (by decide) (ls' := [some (.ref this), some (.ref p0), some (.long p1), none, some (.long p2), none, some (.int (1 : Int32)), none]) rfl ?_
  exact (pX20_lay_b16 hd N _ _ _ _ hf).to ⟨rfl, rfl, trivial⟩
abbrev cX20_line : ByteArray := prog_11_method_6_code
def yX20_line : MethodName := ⟨RX20, "line", "(JJIII)Z"⟩
def YX20_line : eY := (yX20_line, cX20_line, 8, (Option.some FieldType.boolean), [])
theorem mX20_line : e_mv YX20_line RX20 5 := ⟨q3365, q3366, q3367, by decide, by decide +kernel, (e_sig (by decide +kernel))⟩
theorem dX20_line_0 : decode cX20_line 0 = .ok (.iload 5, 2) := dc_21 (a := 5) (by decide +kernel)
theorem dX20_line_2 : decode cX20_line 2 = .ok (.ifCond .le 15, 3) := dc_158 (a := 0) (b := 15) (v := 15) (by decide +kernel)
theorem dX20_line_5 : decode cX20_line 5 = .ok (.iload 6, 2) := dc_21 (a := 6) (by decide +kernel)
theorem dX20_line_7 : decode cX20_line 7 = .ok (.i2l, 1) := dc_133 (by decide +kernel)
theorem dX20_line_8 : decode cX20_line 8 = .ok (.iload 7, 2) := dc_21 (a := 7) (by decide +kernel)
theorem dX20_line_10 : decode cX20_line 10 = .ok (.i2l, 1) := dc_133 (by decide +kernel)
theorem dX20_line_11 : decode cX20_line 11 = .ok (.ladd, 1) := dc_97 (by decide +kernel)
theorem dX20_line_12 : decode cX20_line 12 = .ok (.lconst 0, 1) := dc_9 (by decide +kernel)
theorem dX20_line_13 : decode cX20_line 13 = .ok (.lcmp, 1) := dc_148 (by decide +kernel)
theorem dX20_line_14 : decode cX20_line 14 = .ok (.ifCond .gt 5, 3) := dc_157 (a := 0) (b := 5) (v := 5) (by decide +kernel)
theorem dX20_line_17 : decode cX20_line 17 = .ok (.iconst 1, 1) := dc_4 (by decide +kernel)
theorem dX20_line_18 : decode cX20_line 18 = .ok (.ireturn, 1) := dc_172 (by decide +kernel)
theorem dX20_line_19 : decode cX20_line 19 = .ok (.aload_n 0, 1) := dc_42 (by decide +kernel)
theorem dX20_line_20 : decode cX20_line 20 = .ok (.iconst (-1), 1) := dc_2 (by decide +kernel)
theorem dX20_line_21 : decode cX20_line 21 = .ok (.lload_n 1, 1) := dc_31 (by decide +kernel)
theorem dX20_line_22 : decode cX20_line 22 = .ok (.lload_n 3, 1) := dc_33 (by decide +kernel)
theorem dX20_line_23 : decode cX20_line 23 = .ok (.iload 5, 2) := dc_21 (a := 5) (by decide +kernel)
theorem dX20_line_25 : decode cX20_line 25 = .ok (.iload 6, 2) := dc_21 (a := 6) (by decide +kernel)
theorem dX20_line_27 : decode cX20_line 27 = .ok (.iload 7, 2) := dc_21 (a := 7) (by decide +kernel)
theorem dX20_line_29 : decode cX20_line 29 = .ok (.invokevirtual 69, 3) := dc_182 (a := 0) (b := 69) (n := 69) (by decide +kernel)
theorem dX20_line_32 : decode cX20_line 32 = .ok (.ireturn, 1) := dc_172 (by decide +kernel)
def fX20_line_b17  (h : eH) : Option (Int32 × eH) :=
  some ((1 : Int32), h)
theorem pX20_line_b17 {w : eW} {d : Nat} (hd : 1 ≤ d + 1)  {h : eH} {q} (hf : fX20_line_b17  h = some q) : wp w (d + 1) YX20_line 17 [none, none, none, none, none, none, none, none] [] h (e_is (e_rn c_I q)) := by
  unfold fX20_line_b17 at hf
  refine w_iconst dX20_line_17 (v := 1) (by decide) ?_
  cases hf
  exact w_iret dX20_line_18 rfl rfl rfl
def fX20_line (this : Nat) (p0 : Int64) (p1 : Int64) (p2 : Int32) (p3 : Int32) (p4 : Int32) (h : eH) : Option (Int32 × eH) :=
  if p2 ≤ 0 then
    fX20_line_b17 h
  else
    if 0 < (lg_cmp ((p3).toInt64 + (p4).toInt64) (0 : Int64)) then
      (k_ok 19 h this).bind fun _ =>
      (fX20_mark this (-1 : Int32) p0 p1 p2 p3 p4 h).bind fun q4 =>
      z_r q4.1 (q4.1, q4.2)
    else
      fX20_line_b17 h
theorem pX20_line {w : eW} {d : Nat} (hd : 1 ≤ d) {this : Nat} {p0 : Int64} {p1 : Int64} {p2 : Int32} {p3 : Int32} {p4 : Int32} {h : eH} {q} (hf : fX20_line this p0 p1 p2 p3 p4 h = some q) : wm w d YX20_line [.ref this, .long p0, .long p1, .int p2, .int p3, .int p4] h (e_is (e_rn c_I q)) := by
  obtain ⟨d, rfl⟩ : ∃ e, d = e + 1 := ⟨d - 1, by omega⟩
  show wp w (d + 1) YX20_line 0 [some (.ref this), some (.long p0), none, some (.long p1), none, some (.int p2), some (.int p3), some (.int p4)] [] h _
  unfold fX20_line at hf
  refine w_iload dX20_line_0 rfl ?_
  refine w_if_le 17 dX20_line_2 (by decide) (fun c1 => ?_) (fun c1 => ?_)
  · replace hf := (if_pos (show p2 ≤ 0 from c1)).symm.trans hf
    exact (pX20_line_b17 hd hf).to trivial
  · replace hf := (if_neg (show ¬ (p2 ≤ 0) from c1)).symm.trans hf
    refine w_iload dX20_line_5 rfl ?_
    refine w_i2l dX20_line_7 ?_
    refine w_iload dX20_line_8 rfl ?_
    refine w_i2l dX20_line_10 ?_
    refine w_ladd dX20_line_11 ?_
    refine w_lconst dX20_line_12 (v := 0) (by decide) ?_
    refine w_lcmp dX20_line_13 ?_
    refine w_if_gt 19 dX20_line_14 (by decide) (fun c2 => ?_) (fun c2 => ?_)
    · replace hf := (if_pos (show 0 < (lg_cmp ((p3).toInt64 + (p4).toInt64) (0 : Int64)) from c2)).symm.trans hf
      refine w_aload_n dX20_line_19 rfl rfl ?_
      refine w_iconst dX20_line_20 (v := -1) (by decide) ?_
      refine w_lload_n dX20_line_21 rfl rfl ?_
      refine w_lload_n dX20_line_22 rfl rfl ?_
      refine w_iload dX20_line_23 rfl ?_
      refine w_iload dX20_line_25 rfl ?_
      refine w_iload dX20_line_27 rfl ?_
      obtain ⟨_, b3, hf⟩ := Option.bind_eq_some_iff.mp hf
      refine x_cnI hf (e_stV (Yc := YX20_mark) (ci := 19) (av := [.int (-1 : Int32), .long p0, .long p1, .int p2, .int p3, .int p4]) (st := []) dX20_line_29 q3346 mX20_mark rfl (k_ok_some b3).1 (k_ok_some b3).2) mX20_mark.2.2.1 mX20_mark.2.2.2.2.1 (Nat.le_of_ble_eq_true rfl) (Nat.le_of_ble_eq_true rfl) (fun q hq => pX20_mark (by omega) hq) (fun q4 hf => ?_)
      obtain ⟨b5, rfl⟩ := z_r_some hf
      exact w_iret dX20_line_32 rfl b5 rfl
    · replace hf := (if_neg (show ¬ (0 < (lg_cmp ((p3).toInt64 + (p4).toInt64) (0 : Int64))) from c2)).symm.trans hf
      exact (pX20_line_b17 hd hf).to trivial
