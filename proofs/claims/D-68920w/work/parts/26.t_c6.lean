set_option maxRecDepth 100000
set_option maxHeartbeats 4000000
theorem q550 : (Jvm.Cond.fieldLinkNest "TypeHouse$FontTable" (72 : Nat) "TypeHouse$Font" "size" "I" "TypeHouse") ∈ lw_tbl := lw_at lw_m1 125 rfl
theorem q552 : (Jvm.Cond.fieldLinkNest "TypeHouse$FontTable" (104 : Nat) "TypeHouse$Font" "design" "I" "TypeHouse") ∈ lw_tbl := lw_at lw_m1 127 rfl
theorem q591 : (Jvm.Cond.fieldLinkNest "TypeHouse$Writer" (111 : Nat) "TypeHouse$FontTable" "used" "[Z" "TypeHouse") ∈ lw_tbl := lw_at lw_m1 166 rfl
theorem q595 : (Jvm.Cond.fieldLinkNest "TypeHouse$Writer" (131 : Nat) "TypeHouse$FontTable" "told" "I" "TypeHouse") ∈ lw_tbl := lw_at lw_m1 170 rfl
theorem q625 : (Jvm.Cond.fieldLink "TypeHouse$Pool" (22 : Nat) "TypeHouse$Pool" "size" "I") ∈ lw_all := lw_g (lw_at lw_m1 200 rfl) rfl
theorem q656 : (Jvm.Cond.fieldLinkNest "TypeHouse$Press" (311 : Nat) "TypeHouse$Settings" "cells" "[I" "TypeHouse") ∈ lw_tbl := lw_at lw_m1 231 rfl
theorem q1204 : (Jvm.Cond.fieldLinkNest "TypeHouse$Press" (651 : Nat) "TypeHouse$Layout" "marks" "[J" "TypeHouse") ∈ lw_tbl := lw_at lw_m4 59 rfl
theorem q1206 : (Jvm.Cond.fieldLinkNest "TypeHouse$Press" (615 : Nat) "TypeHouse$Layout" "size" "I" "TypeHouse") ∈ lw_tbl := lw_at lw_m4 61 rfl
theorem q1501 : (Jvm.Cond.fieldLinkNest "TypeHouse$Press" (626 : Nat) "TypeHouse$PageItems" "seconds" "[I" "TypeHouse") ∈ lw_tbl := lw_at lw_m5 116 rfl
theorem q1504 : (Jvm.Cond.fieldLinkNest "TypeHouse$Press" (637 : Nat) "TypeHouse$PageItems" "thirds" "[I" "TypeHouse") ∈ lw_tbl := lw_at lw_m5 119 rfl
theorem q1545 : (Jvm.Cond.fieldLinkNest "TypeHouse$Press" (620 : Nat) "TypeHouse$Sums" "length" "J" "TypeHouse") ∈ lw_tbl := lw_at lw_m5 160 rfl
theorem q1547 : (Jvm.Cond.fieldLinkNest "TypeHouse$Press" (624 : Nat) "TypeHouse$Sums" "depth" "J" "TypeHouse") ∈ lw_tbl := lw_at lw_m5 162 rfl
theorem q1572 : (Jvm.Cond.fieldLinkNest "TypeHouse$Press" (643 : Nat) "TypeHouse$Page" "greatest" "I" "TypeHouse") ∈ lw_tbl := lw_at lw_m5 187 rfl
theorem q1622 : (Jvm.Cond.fieldLinkNest "TypeHouse$Press" (571 : Nat) "TypeHouse$PageBuilder" "height" "I" "TypeHouse") ∈ lw_tbl := lw_at lw_m5 237 rfl
theorem q1624 : (Jvm.Cond.fieldLinkNest "TypeHouse$Press" (572 : Nat) "TypeHouse$PageBuilder" "top" "I" "TypeHouse") ∈ lw_tbl := lw_at lw_m5 239 rfl
theorem q1626 : (Jvm.Cond.fieldLinkNest "TypeHouse$Press" (573 : Nat) "TypeHouse$PageBuilder" "greatest" "I" "TypeHouse") ∈ lw_tbl := lw_at lw_m6 1 rfl
theorem q1629 : (Jvm.Cond.fieldLinkNest "TypeHouse$Press" (582 : Nat) "TypeHouse$PageBuilder" "ended" "LTypeHouse$Page;" "TypeHouse") ∈ lw_tbl := lw_at lw_m6 4 rfl
theorem q1672 : (Jvm.Cond.fieldLink "TypeHouse$FileBytes" (13 : Nat) "TypeHouse$FileBytes" "size" "I") ∈ lw_all := lw_g (lw_at lw_m6 47 rfl) rfl
theorem q1690 : (Jvm.Cond.fieldLink "TypeHouse$Moves" (28 : Nat) "TypeHouse$Moves" "size" "I") ∈ lw_all := lw_g (lw_at lw_m6 65 rfl) rfl
theorem q1691 : (Jvm.Cond.fieldLink "TypeHouse$Moves" (31 : Nat) "TypeHouse$Moves" "at" "I") ∈ lw_all := lw_g (lw_at lw_m6 66 rfl) rfl
theorem q1692 : (Jvm.Cond.fieldLink "TypeHouse$Moves" (34 : Nat) "TypeHouse$Moves" "one" "I") ∈ lw_all := lw_g (lw_at lw_m6 67 rfl) rfl
theorem q1693 : (Jvm.Cond.fieldLink "TypeHouse$Moves" (37 : Nat) "TypeHouse$Moves" "other" "I") ∈ lw_all := lw_g (lw_at lw_m6 68 rfl) rfl
theorem q1718 : (Jvm.Cond.fieldLinkNest "TypeHouse$Press" (670 : Nat) "TypeHouse$Writer" "counts" "[I" "TypeHouse") ∈ lw_tbl := lw_at lw_m6 93 rfl
theorem q1725 : (Jvm.Cond.fieldLinkNest "TypeHouse$Press" (665 : Nat) "TypeHouse$Writer" "marks" "I" "TypeHouse") ∈ lw_tbl := lw_at lw_m6 100 rfl
theorem q3190 : (Jvm.Cond.methodLink "TypeHouse$Press" (298 : Nat) ({ cls := "TypeHouse$Press", name := "isVertical", desc := "()Z" } : Jvm.MethodName)) ∈ lw_all := lw_g (lw_at lw_m12 125 rfl) rfl
theorem q3196 : (Jvm.Cond.instanceMethod ({ cls := "TypeHouse$Press", name := "addGlue", desc := "(I)V" } : Jvm.MethodName)) ∈ lw_all := lw_g (lw_at lw_m12 131 rfl) rfl
theorem q3197 : (Jvm.Cond.code ({ cls := "TypeHouse$Press", name := "addGlue", desc := "(I)V" } : Jvm.MethodName) prog_26_method_12_code (3 : Nat) (Option.none : Option Jvm.ClassFile.FieldType)) ∈ lw_all := lw_g (lw_at lw_m12 132 rfl) rfl
theorem q3198 : (Jvm.Cond.methodLink "TypeHouse$Press" (294 : Nat) ({ cls := "TypeHouse$Press", name := "addVertical", desc := "(IIIII)V" } : Jvm.MethodName)) ∈ lw_all := lw_g (lw_at lw_m12 133 rfl) rfl
theorem q3200 : (Jvm.Cond.instanceMethod ({ cls := "TypeHouse$Press", name := "addVertical", desc := "(IIIII)V" } : Jvm.MethodName)) ∈ lw_all := lw_g (lw_at lw_m12 135 rfl) rfl
theorem q3201 : (Jvm.Cond.code ({ cls := "TypeHouse$Press", name := "addVertical", desc := "(IIIII)V" } : Jvm.MethodName) prog_26_method_13_code (6 : Nat) (Option.none : Option Jvm.ClassFile.FieldType)) ∈ lw_all := lw_g (lw_at lw_m12 136 rfl) rfl
theorem q3202 : (Jvm.Cond.methodLink "TypeHouse$Press" (325 : Nat) ({ cls := "TypeHouse$PageItems", name := "add", desc := "(IIIIII)V" } : Jvm.MethodName)) ∈ lw_all := lw_g (lw_at lw_m12 137 rfl) rfl
theorem q3212 : (Jvm.Cond.methodLink "TypeHouse$Press" (333 : Nat) ({ cls := "TypeHouse$Press", name := "goOn", desc := "()V" } : Jvm.MethodName)) ∈ lw_all := lw_g (lw_at lw_m12 147 rfl) rfl
theorem q3214 : (Jvm.Cond.instanceMethod ({ cls := "TypeHouse$Press", name := "goOn", desc := "()V" } : Jvm.MethodName)) ∈ lw_all := lw_g (lw_at lw_m12 149 rfl) rfl
theorem q3215 : (Jvm.Cond.code ({ cls := "TypeHouse$Press", name := "goOn", desc := "()V" } : Jvm.MethodName) prog_26_method_37_code (1 : Nat) (Option.none : Option Jvm.ClassFile.FieldType)) ∈ lw_all := lw_g (lw_at lw_m12 150 rfl) rfl
theorem q3216 : (Jvm.Cond.methodLink "TypeHouse$Press" (370 : Nat) ({ cls := "java/lang/Math", name := "max", desc := "(II)I" } : Jvm.MethodName)) ∈ lw_all := lw_g (lw_at lw_m12 151 rfl) rfl
theorem q3217 : (Jvm.Cond.methodLink "TypeHouse$Press" (576 : Nat) ({ cls := "TypeHouse$PageBuilder", name := "canStep", desc := "()Z" } : Jvm.MethodName)) ∈ lw_all := lw_g (lw_at lw_m12 152 rfl) rfl
theorem q3225 : (Jvm.Cond.methodLink "TypeHouse$Press" (579 : Nat) ({ cls := "TypeHouse$PageBuilder", name := "step", desc := "()Z" } : Jvm.MethodName)) ∈ lw_all := lw_g (lw_at lw_m12 160 rfl) rfl
theorem q3294 : (Jvm.Cond.methodLink "TypeHouse$Press" (586 : Nat) ({ cls := "TypeHouse$Press", name := "ship", desc := "(LTypeHouse$Page;)V" } : Jvm.MethodName)) ∈ lw_all := lw_g (lw_at lw_m12 229 rfl) rfl
theorem q3296 : (Jvm.Cond.instanceMethod ({ cls := "TypeHouse$Press", name := "ship", desc := "(LTypeHouse$Page;)V" } : Jvm.MethodName)) ∈ lw_all := lw_g (lw_at lw_m12 231 rfl) rfl
theorem q3297 : (Jvm.Cond.code ({ cls := "TypeHouse$Press", name := "ship", desc := "(LTypeHouse$Page;)V" } : Jvm.MethodName) prog_26_method_43_code (3 : Nat) (Option.none : Option Jvm.ClassFile.FieldType)) ∈ lw_all := lw_g (lw_at lw_m12 232 rfl) rfl
theorem q3298 : (Jvm.Cond.methodLink "TypeHouse$Press" (660 : Nat) ({ cls := "TypeHouse$Press", name := "wantFew", desc := "(LTypeHouse$Page;)V" } : Jvm.MethodName)) ∈ lw_all := lw_g (lw_at lw_m12 233 rfl) rfl
theorem q3303 : (Jvm.Cond.methodLink "TypeHouse$Press" (663 : Nat) ({ cls := "TypeHouse$Press", name := "lay", desc := "(LTypeHouse$Page;)V" } : Jvm.MethodName)) ∈ lw_all := lw_g (lw_at lw_m12 238 rfl) rfl
theorem q3305 : (Jvm.Cond.instanceMethod ({ cls := "TypeHouse$Press", name := "lay", desc := "(LTypeHouse$Page;)V" } : Jvm.MethodName)) ∈ lw_all := lw_g (lw_at lw_m13 0 rfl) rfl
theorem q3306 : (Jvm.Cond.code ({ cls := "TypeHouse$Press", name := "lay", desc := "(LTypeHouse$Page;)V" } : Jvm.MethodName) prog_26_method_40_code (9 : Nat) (Option.none : Option Jvm.ClassFile.FieldType)) ∈ lw_all := lw_g (lw_at lw_m13 1 rfl) rfl
theorem q3307 : (Jvm.Cond.methodLink "TypeHouse$Press" (611 : Nat) ({ cls := "TypeHouse$Press", name := "widthOf", desc := "(LTypeHouse$Page;)I" } : Jvm.MethodName)) ∈ lw_all := lw_g (lw_at lw_m13 2 rfl) rfl
theorem q3316 : (Jvm.Cond.methodLink "TypeHouse$Press" (616 : Nat) ({ cls := "TypeHouse$Page", name := "crown", desc := "(LTypeHouse$PageItems;LTypeHouse$Sums;)V" } : Jvm.MethodName)) ∈ lw_all := lw_g (lw_at lw_m13 11 rfl) rfl
theorem q3317 : (Jvm.Cond.methodLink "TypeHouse$Press" (629 : Nat) ({ cls := "TypeHouse$Page", name := "share", desc := "(LTypeHouse$Sums;)J" } : Jvm.MethodName)) ∈ lw_all := lw_g (lw_at lw_m13 12 rfl) rfl
theorem q3326 : (Jvm.Cond.methodLink "TypeHouse$Press" (633 : Nat) ({ cls := "TypeHouse$Layout", name := "lay", desc := "(LTypeHouse$Box;JJ)Z" } : Jvm.MethodName)) ∈ lw_all := lw_g (lw_at lw_m13 21 rfl) rfl
theorem q3364 : (Jvm.Cond.methodLink "TypeHouse$Press" (640 : Nat) ({ cls := "TypeHouse$Layout", name := "line", desc := "(JJIII)Z" } : Jvm.MethodName)) ∈ lw_all := lw_g (lw_at lw_m13 59 rfl) rfl
theorem q3368 : (Jvm.Cond.methodLink "TypeHouse$Press" (644 : Nat) ({ cls := "TypeHouse$Sums", name := "add", desc := "(LTypeHouse$PageItems;II)V" } : Jvm.MethodName)) ∈ lw_all := lw_g (lw_at lw_m13 63 rfl) rfl
theorem q3369 : (Jvm.Cond.methodLink "TypeHouse$Press" (667 : Nat) ({ cls := "TypeHouse$Press", name := "hand", desc := "()V" } : Jvm.MethodName)) ∈ lw_all := lw_g (lw_at lw_m13 64 rfl) rfl
theorem q3371 : (Jvm.Cond.instanceMethod ({ cls := "TypeHouse$Press", name := "hand", desc := "()V" } : Jvm.MethodName)) ∈ lw_all := lw_g (lw_at lw_m13 66 rfl) rfl
theorem q3372 : (Jvm.Cond.code ({ cls := "TypeHouse$Press", name := "hand", desc := "()V" } : Jvm.MethodName) prog_26_method_42_code (14 : Nat) (Option.none : Option Jvm.ClassFile.FieldType)) ∈ lw_all := lw_g (lw_at lw_m13 67 rfl) rfl
theorem q3373 : (Jvm.Cond.methodLink "TypeHouse$Press" (655 : Nat) ({ cls := "TypeHouse$Press", name := "isNear", desc := "(J)Z" } : Jvm.MethodName)) ∈ lw_all := lw_g (lw_at lw_m13 68 rfl) rfl
theorem q3374 : (Jvm.Cond.static ({ cls := "TypeHouse$Press", name := "isNear", desc := "(J)Z" } : Jvm.MethodName)) ∈ lw_all := lw_g (lw_at lw_m13 69 rfl) rfl
theorem q3375 : (Jvm.Cond.code ({ cls := "TypeHouse$Press", name := "isNear", desc := "(J)Z" } : Jvm.MethodName) prog_26_method_41_code (2 : Nat) (Option.some Jvm.ClassFile.FieldType.boolean)) ∈ lw_all := lw_g (lw_at lw_m13 70 rfl) rfl
theorem q3376 : (Jvm.Cond.constantLong "TypeHouse$Press" (647 : Nat) (-1000000000 : Int64)) ∈ lw_all := lw_g (lw_at lw_m13 71 rfl) rfl
theorem q3377 : (Jvm.Cond.constantLong "TypeHouse$Press" (649 : Nat) (1000000000 : Int64)) ∈ lw_all := lw_g (lw_at lw_m13 72 rfl) rfl
theorem q3378 : (Jvm.Cond.methodLink "TypeHouse$Press" (659 : Nat) ({ cls := "TypeHouse$Writer", name := "add", desc := "(IIIII)I" } : Jvm.MethodName)) ∈ lw_all := lw_g (lw_at lw_m13 73 rfl) rfl
theorem q3379 : (Jvm.Cond.instanceMethod ({ cls := "TypeHouse$Writer", name := "add", desc := "(IIIII)I" } : Jvm.MethodName)) ∈ lw_all := lw_g (lw_at lw_m13 74 rfl) rfl
theorem q3380 : (Jvm.Cond.selects "TypeHouse$Writer" ({ cls := "TypeHouse$Writer", name := "add", desc := "(IIIII)I" } : Jvm.MethodName) ({ cls := "TypeHouse$Writer", name := "add", desc := "(IIIII)I" } : Jvm.MethodName)) ∈ lw_all := lw_g (lw_at lw_m13 75 rfl) rfl
theorem q3381 : (Jvm.Cond.code ({ cls := "TypeHouse$Writer", name := "add", desc := "(IIIII)I" } : Jvm.MethodName) prog_35_method_3_code (6 : Nat) (Option.some Jvm.ClassFile.FieldType.int)) ∈ lw_all := lw_g (lw_at lw_m13 76 rfl) rfl
theorem q3382 : (Jvm.Cond.constant "TypeHouse$Press" (673 : Nat) (2147483647 : Int32)) ∈ lw_all := lw_g (lw_at lw_m13 77 rfl) rfl
theorem q3383 : (Jvm.Cond.methodLink "TypeHouse$Press" (674 : Nat) ({ cls := "TypeHouse$Writer", name := "ship", desc := "(Z)Z" } : Jvm.MethodName)) ∈ lw_all := lw_g (lw_at lw_m13 78 rfl) rfl
theorem q3384 : (Jvm.Cond.instanceMethod ({ cls := "TypeHouse$Writer", name := "ship", desc := "(Z)Z" } : Jvm.MethodName)) ∈ lw_all := lw_g (lw_at lw_m13 79 rfl) rfl
theorem q3385 : (Jvm.Cond.selects "TypeHouse$Writer" ({ cls := "TypeHouse$Writer", name := "ship", desc := "(Z)Z" } : Jvm.MethodName) ({ cls := "TypeHouse$Writer", name := "ship", desc := "(Z)Z" } : Jvm.MethodName)) ∈ lw_all := lw_g (lw_at lw_m13 80 rfl) rfl
theorem q3386 : (Jvm.Cond.code ({ cls := "TypeHouse$Writer", name := "ship", desc := "(Z)Z" } : Jvm.MethodName) prog_35_method_9_code (7 : Nat) (Option.some Jvm.ClassFile.FieldType.boolean)) ∈ lw_all := lw_g (lw_at lw_m13 81 rfl) rfl
theorem q3387 : (Jvm.Cond.methodLink "TypeHouse$Writer" (128 : Nat) ({ cls := "TypeHouse$Writer", name := "gather", desc := "()V" } : Jvm.MethodName)) ∈ lw_all := lw_g (lw_at lw_m13 82 rfl) rfl
theorem q3389 : (Jvm.Cond.instanceMethod ({ cls := "TypeHouse$Writer", name := "gather", desc := "()V" } : Jvm.MethodName)) ∈ lw_all := lw_g (lw_at lw_m13 84 rfl) rfl
theorem q3390 : (Jvm.Cond.code ({ cls := "TypeHouse$Writer", name := "gather", desc := "()V" } : Jvm.MethodName) prog_35_method_5_code (4 : Nat) (Option.none : Option Jvm.ClassFile.FieldType)) ∈ lw_all := lw_g (lw_at lw_m13 85 rfl) rfl
theorem q3391 : (Jvm.Cond.methodLink "TypeHouse$Writer" (94 : Nat) ({ cls := "TypeHouse$Moves", name := "clear", desc := "()V" } : Jvm.MethodName)) ∈ lw_all := lw_g (lw_at lw_m13 86 rfl) rfl
theorem q3392 : (Jvm.Cond.instanceMethod ({ cls := "TypeHouse$Moves", name := "clear", desc := "()V" } : Jvm.MethodName)) ∈ lw_all := lw_g (lw_at lw_m13 87 rfl) rfl
theorem q3393 : (Jvm.Cond.selects "TypeHouse$Moves" ({ cls := "TypeHouse$Moves", name := "clear", desc := "()V" } : Jvm.MethodName) ({ cls := "TypeHouse$Moves", name := "clear", desc := "()V" } : Jvm.MethodName)) ∈ lw_all := lw_g (lw_at lw_m13 88 rfl) rfl
theorem q3394 : (Jvm.Cond.code ({ cls := "TypeHouse$Moves", name := "clear", desc := "()V" } : Jvm.MethodName) prog_16_method_2_code (1 : Nat) (Option.none : Option Jvm.ClassFile.FieldType)) ∈ lw_all := lw_g (lw_at lw_m13 89 rfl) rfl
theorem q3395 : (Jvm.Cond.methodLink "TypeHouse$Writer" (95 : Nat) ({ cls := "TypeHouse$Moves", name := "add", desc := "(I)V" } : Jvm.MethodName)) ∈ lw_all := lw_g (lw_at lw_m13 90 rfl) rfl
theorem q3396 : (Jvm.Cond.instanceMethod ({ cls := "TypeHouse$Moves", name := "add", desc := "(I)V" } : Jvm.MethodName)) ∈ lw_all := lw_g (lw_at lw_m13 91 rfl) rfl
theorem q3397 : (Jvm.Cond.selects "TypeHouse$Moves" ({ cls := "TypeHouse$Moves", name := "add", desc := "(I)V" } : Jvm.MethodName) ({ cls := "TypeHouse$Moves", name := "add", desc := "(I)V" } : Jvm.MethodName)) ∈ lw_all := lw_g (lw_at lw_m13 92 rfl) rfl
theorem q3398 : (Jvm.Cond.code ({ cls := "TypeHouse$Moves", name := "add", desc := "(I)V" } : Jvm.MethodName) prog_16_method_3_code (2 : Nat) (Option.none : Option Jvm.ClassFile.FieldType)) ∈ lw_all := lw_g (lw_at lw_m13 93 rfl) rfl
theorem q3399 : (Jvm.Cond.methodLink "TypeHouse$Writer" (98 : Nat) ({ cls := "TypeHouse$Writer", name := "behind", desc := "(I)I" } : Jvm.MethodName)) ∈ lw_all := lw_g (lw_at lw_m13 94 rfl) rfl
theorem q3401 : (Jvm.Cond.instanceMethod ({ cls := "TypeHouse$Writer", name := "behind", desc := "(I)I" } : Jvm.MethodName)) ∈ lw_all := lw_g (lw_at lw_m13 96 rfl) rfl
theorem q3402 : (Jvm.Cond.code ({ cls := "TypeHouse$Writer", name := "behind", desc := "(I)I" } : Jvm.MethodName) prog_35_method_4_code (2 : Nat) (Option.some Jvm.ClassFile.FieldType.int)) ∈ lw_all := lw_g (lw_at lw_m13 97 rfl) rfl
theorem q3403 : (Jvm.Cond.methodLink "TypeHouse$Writer" (90 : Nat) ({ cls := "TypeHouse$FontTable", name := "width", desc := "(II)I" } : Jvm.MethodName)) ∈ lw_all := lw_g (lw_at lw_m13 98 rfl) rfl
theorem q3404 : (Jvm.Cond.methodLink "TypeHouse$Writer" (102 : Nat) ({ cls := "TypeHouse$Moves", name := "settle", desc := "()V" } : Jvm.MethodName)) ∈ lw_all := lw_g (lw_at lw_m13 99 rfl) rfl
theorem q3405 : (Jvm.Cond.instanceMethod ({ cls := "TypeHouse$Moves", name := "settle", desc := "()V" } : Jvm.MethodName)) ∈ lw_all := lw_g (lw_at lw_m13 100 rfl) rfl
theorem q3406 : (Jvm.Cond.selects "TypeHouse$Moves" ({ cls := "TypeHouse$Moves", name := "settle", desc := "()V" } : Jvm.MethodName) ({ cls := "TypeHouse$Moves", name := "settle", desc := "()V" } : Jvm.MethodName)) ∈ lw_all := lw_g (lw_at lw_m13 101 rfl) rfl
theorem q3407 : (Jvm.Cond.code ({ cls := "TypeHouse$Moves", name := "settle", desc := "()V" } : Jvm.MethodName) prog_16_method_5_code (3 : Nat) (Option.none : Option Jvm.ClassFile.FieldType)) ∈ lw_all := lw_g (lw_at lw_m13 102 rfl) rfl
theorem q3408 : (Jvm.Cond.methodLink "TypeHouse$Moves" (41 : Nat) ({ cls := "TypeHouse$Moves", name := "seek", desc := "(I)I" } : Jvm.MethodName)) ∈ lw_all := lw_g (lw_at lw_m13 103 rfl) rfl
theorem q3410 : (Jvm.Cond.instanceMethod ({ cls := "TypeHouse$Moves", name := "seek", desc := "(I)I" } : Jvm.MethodName)) ∈ lw_all := lw_g (lw_at lw_m13 105 rfl) rfl
theorem q3411 : (Jvm.Cond.code ({ cls := "TypeHouse$Moves", name := "seek", desc := "(I)I" } : Jvm.MethodName) prog_16_method_4_code (3 : Nat) (Option.some Jvm.ClassFile.FieldType.int)) ∈ lw_all := lw_g (lw_at lw_m13 106 rfl) rfl
theorem q3412 : (Jvm.Cond.constant "TypeHouse$Moves" (40 : Nat) (-1640531535 : Int32)) ∈ lw_all := lw_g (lw_at lw_m13 107 rfl) rfl
theorem q3413 : (Jvm.Cond.methodLink "TypeHouse$Writer" (134 : Nat) ({ cls := "TypeHouse$Writer", name := "open", desc := "()V" } : Jvm.MethodName)) ∈ lw_all := lw_g (lw_at lw_m13 108 rfl) rfl
theorem q3415 : (Jvm.Cond.instanceMethod ({ cls := "TypeHouse$Writer", name := "open", desc := "()V" } : Jvm.MethodName)) ∈ lw_all := lw_g (lw_at lw_m13 110 rfl) rfl
theorem q3416 : (Jvm.Cond.code ({ cls := "TypeHouse$Writer", name := "open", desc := "()V" } : Jvm.MethodName) prog_35_method_6_code (2 : Nat) (Option.none : Option Jvm.ClassFile.FieldType)) ∈ lw_all := lw_g (lw_at lw_m13 111 rfl) rfl
theorem q3417 : (Jvm.Cond.methodLink "TypeHouse$Writer" (105 : Nat) ({ cls := "TypeHouse$FileBytes", name := "add", desc := "(I)V" } : Jvm.MethodName)) ∈ lw_all := lw_g (lw_at lw_m13 112 rfl) rfl
theorem q3418 : (Jvm.Cond.instanceMethod ({ cls := "TypeHouse$FileBytes", name := "add", desc := "(I)V" } : Jvm.MethodName)) ∈ lw_all := lw_g (lw_at lw_m13 113 rfl) rfl
theorem q3419 : (Jvm.Cond.selects "TypeHouse$FileBytes" ({ cls := "TypeHouse$FileBytes", name := "add", desc := "(I)V" } : Jvm.MethodName) ({ cls := "TypeHouse$FileBytes", name := "add", desc := "(I)V" } : Jvm.MethodName)) ∈ lw_all := lw_g (lw_at lw_m13 114 rfl) rfl
theorem q3420 : (Jvm.Cond.code ({ cls := "TypeHouse$FileBytes", name := "add", desc := "(I)V" } : Jvm.MethodName) prog_5_method_2_code (2 : Nat) (Option.none : Option Jvm.ClassFile.FieldType)) ∈ lw_all := lw_g (lw_at lw_m13 115 rfl) rfl
theorem q3421 : (Jvm.Cond.constant "TypeHouse$Writer" (106 : Nat) (25400000 : Int32)) ∈ lw_all := lw_g (lw_at lw_m13 116 rfl) rfl
theorem q3422 : (Jvm.Cond.methodLink "TypeHouse$Writer" (107 : Nat) ({ cls := "TypeHouse$FileBytes", name := "number", desc := "(II)V" } : Jvm.MethodName)) ∈ lw_all := lw_g (lw_at lw_m13 117 rfl) rfl
theorem q3423 : (Jvm.Cond.instanceMethod ({ cls := "TypeHouse$FileBytes", name := "number", desc := "(II)V" } : Jvm.MethodName)) ∈ lw_all := lw_g (lw_at lw_m13 118 rfl) rfl
theorem q3424 : (Jvm.Cond.selects "TypeHouse$FileBytes" ({ cls := "TypeHouse$FileBytes", name := "number", desc := "(II)V" } : Jvm.MethodName) ({ cls := "TypeHouse$FileBytes", name := "number", desc := "(II)V" } : Jvm.MethodName)) ∈ lw_all := lw_g (lw_at lw_m13 119 rfl) rfl
theorem q3425 : (Jvm.Cond.code ({ cls := "TypeHouse$FileBytes", name := "number", desc := "(II)V" } : Jvm.MethodName) prog_5_method_3_code (4 : Nat) (Option.none : Option Jvm.ClassFile.FieldType)) ∈ lw_all := lw_g (lw_at lw_m13 120 rfl) rfl
theorem q3426 : (Jvm.Cond.methodLink "TypeHouse$FileBytes" (17 : Nat) ({ cls := "TypeHouse$FileBytes", name := "add", desc := "(I)V" } : Jvm.MethodName)) ∈ lw_all := lw_g (lw_at lw_m13 121 rfl) rfl
theorem q3427 : (Jvm.Cond.constant "TypeHouse$Writer" (110 : Nat) (473628672 : Int32)) ∈ lw_all := lw_g (lw_at lw_m13 122 rfl) rfl
theorem q3428 : (Jvm.Cond.methodLink "TypeHouse$Writer" (137 : Nat) ({ cls := "TypeHouse$Writer", name := "writeMarks", desc := "()V" } : Jvm.MethodName)) ∈ lw_all := lw_g (lw_at lw_m13 123 rfl) rfl
theorem q3430 : (Jvm.Cond.instanceMethod ({ cls := "TypeHouse$Writer", name := "writeMarks", desc := "()V" } : Jvm.MethodName)) ∈ lw_all := lw_g (lw_at lw_m13 125 rfl) rfl
theorem q3431 : (Jvm.Cond.code ({ cls := "TypeHouse$Writer", name := "writeMarks", desc := "()V" } : Jvm.MethodName) prog_35_method_8_code (5 : Nat) (Option.none : Option Jvm.ClassFile.FieldType)) ∈ lw_all := lw_g (lw_at lw_m13 126 rfl) rfl
theorem q3432 : (Jvm.Cond.methodLink "TypeHouse$Writer" (122 : Nat) ({ cls := "TypeHouse$Moves", name := "write", desc := "(ILTypeHouse$FileBytes;)V" } : Jvm.MethodName)) ∈ lw_all := lw_g (lw_at lw_m13 127 rfl) rfl
theorem q3433 : (Jvm.Cond.instanceMethod ({ cls := "TypeHouse$Moves", name := "write", desc := "(ILTypeHouse$FileBytes;)V" } : Jvm.MethodName)) ∈ lw_all := lw_g (lw_at lw_m13 128 rfl) rfl
theorem q3434 : (Jvm.Cond.selects "TypeHouse$Moves" ({ cls := "TypeHouse$Moves", name := "write", desc := "(ILTypeHouse$FileBytes;)V" } : Jvm.MethodName) ({ cls := "TypeHouse$Moves", name := "write", desc := "(ILTypeHouse$FileBytes;)V" } : Jvm.MethodName)) ∈ lw_all := lw_g (lw_at lw_m13 129 rfl) rfl
theorem q3435 : (Jvm.Cond.code ({ cls := "TypeHouse$Moves", name := "write", desc := "(ILTypeHouse$FileBytes;)V" } : Jvm.MethodName) prog_16_method_8_code (3 : Nat) (Option.none : Option Jvm.ClassFile.FieldType)) ∈ lw_all := lw_g (lw_at lw_m13 130 rfl) rfl
theorem q3436 : (Jvm.Cond.methodLink "TypeHouse$Moves" (45 : Nat) ({ cls := "TypeHouse$Moves", name := "is", desc := "(II)Z" } : Jvm.MethodName)) ∈ lw_all := lw_g (lw_at lw_m13 131 rfl) rfl
theorem q3438 : (Jvm.Cond.instanceMethod ({ cls := "TypeHouse$Moves", name := "is", desc := "(II)Z" } : Jvm.MethodName)) ∈ lw_all := lw_g (lw_at lw_m13 133 rfl) rfl
theorem q3439 : (Jvm.Cond.code ({ cls := "TypeHouse$Moves", name := "is", desc := "(II)Z" } : Jvm.MethodName) prog_16_method_7_code (3 : Nat) (Option.some Jvm.ClassFile.FieldType.boolean)) ∈ lw_all := lw_g (lw_at lw_m13 134 rfl) rfl
theorem q3440 : (Jvm.Cond.methodLink "TypeHouse$Moves" (49 : Nat) ({ cls := "TypeHouse$FileBytes", name := "add", desc := "(I)V" } : Jvm.MethodName)) ∈ lw_all := lw_g (lw_at lw_m13 135 rfl) rfl
theorem q3441 : (Jvm.Cond.methodLink "TypeHouse$Moves" (55 : Nat) ({ cls := "TypeHouse$Moves", name := "isAwaited", desc := "(I)Z" } : Jvm.MethodName)) ∈ lw_all := lw_g (lw_at lw_m13 136 rfl) rfl
theorem q3443 : (Jvm.Cond.instanceMethod ({ cls := "TypeHouse$Moves", name := "isAwaited", desc := "(I)Z" } : Jvm.MethodName)) ∈ lw_all := lw_g (lw_at lw_m13 138 rfl) rfl
theorem q3444 : (Jvm.Cond.code ({ cls := "TypeHouse$Moves", name := "isAwaited", desc := "(I)Z" } : Jvm.MethodName) prog_16_method_6_code (2 : Nat) (Option.some Jvm.ClassFile.FieldType.boolean)) ∈ lw_all := lw_g (lw_at lw_m13 139 rfl) rfl
theorem q3445 : (Jvm.Cond.methodLink "TypeHouse$Moves" (59 : Nat) ({ cls := "TypeHouse$FileBytes", name := "shortest", desc := "(II)V" } : Jvm.MethodName)) ∈ lw_all := lw_g (lw_at lw_m13 140 rfl) rfl
theorem q3446 : (Jvm.Cond.instanceMethod ({ cls := "TypeHouse$FileBytes", name := "shortest", desc := "(II)V" } : Jvm.MethodName)) ∈ lw_all := lw_g (lw_at lw_m13 141 rfl) rfl
theorem q3447 : (Jvm.Cond.selects "TypeHouse$FileBytes" ({ cls := "TypeHouse$FileBytes", name := "shortest", desc := "(II)V" } : Jvm.MethodName) ({ cls := "TypeHouse$FileBytes", name := "shortest", desc := "(II)V" } : Jvm.MethodName)) ∈ lw_all := lw_g (lw_at lw_m13 142 rfl) rfl
theorem q3448 : (Jvm.Cond.code ({ cls := "TypeHouse$FileBytes", name := "shortest", desc := "(II)V" } : Jvm.MethodName) prog_5_method_5_code (4 : Nat) (Option.none : Option Jvm.ClassFile.FieldType)) ∈ lw_all := lw_g (lw_at lw_m13 143 rfl) rfl
theorem q3449 : (Jvm.Cond.methodLink "TypeHouse$FileBytes" (21 : Nat) ({ cls := "TypeHouse$FileBytes", name := "bytesFor", desc := "(I)I" } : Jvm.MethodName)) ∈ lw_all := lw_g (lw_at lw_m13 144 rfl) rfl
theorem q3450 : (Jvm.Cond.static ({ cls := "TypeHouse$FileBytes", name := "bytesFor", desc := "(I)I" } : Jvm.MethodName)) ∈ lw_all := lw_g (lw_at lw_m13 145 rfl) rfl
theorem q3451 : (Jvm.Cond.code ({ cls := "TypeHouse$FileBytes", name := "bytesFor", desc := "(I)I" } : Jvm.MethodName) prog_5_method_4_code (2 : Nat) (Option.some Jvm.ClassFile.FieldType.int)) ∈ lw_all := lw_g (lw_at lw_m13 146 rfl) rfl
theorem q3452 : (Jvm.Cond.methodLink "TypeHouse$FileBytes" (25 : Nat) ({ cls := "TypeHouse$FileBytes", name := "number", desc := "(II)V" } : Jvm.MethodName)) ∈ lw_all := lw_g (lw_at lw_m13 147 rfl) rfl
theorem q3453 : (Jvm.Cond.methodLink "TypeHouse$Writer" (125 : Nat) ({ cls := "TypeHouse$Writer", name := "select", desc := "(I)V" } : Jvm.MethodName)) ∈ lw_all := lw_g (lw_at lw_m13 148 rfl) rfl
theorem q3455 : (Jvm.Cond.instanceMethod ({ cls := "TypeHouse$Writer", name := "select", desc := "(I)V" } : Jvm.MethodName)) ∈ lw_all := lw_g (lw_at lw_m13 150 rfl) rfl
theorem q3456 : (Jvm.Cond.code ({ cls := "TypeHouse$Writer", name := "select", desc := "(I)V" } : Jvm.MethodName) prog_35_method_7_code (2 : Nat) (Option.none : Option Jvm.ClassFile.FieldType)) ∈ lw_all := lw_g (lw_at lw_m13 151 rfl) rfl
theorem q3457 : (Jvm.Cond.methodLink "TypeHouse$Writer" (115 : Nat) ({ cls := "TypeHouse$FontTable", name := "define", desc := "(ILTypeHouse$FileBytes;)V" } : Jvm.MethodName)) ∈ lw_all := lw_g (lw_at lw_m13 152 rfl) rfl
theorem q3458 : (Jvm.Cond.instanceMethod ({ cls := "TypeHouse$FontTable", name := "define", desc := "(ILTypeHouse$FileBytes;)V" } : Jvm.MethodName)) ∈ lw_all := lw_g (lw_at lw_m13 153 rfl) rfl
theorem q3459 : (Jvm.Cond.selects "TypeHouse$FontTable" ({ cls := "TypeHouse$FontTable", name := "define", desc := "(ILTypeHouse$FileBytes;)V" } : Jvm.MethodName) ({ cls := "TypeHouse$FontTable", name := "define", desc := "(ILTypeHouse$FileBytes;)V" } : Jvm.MethodName)) ∈ lw_all := lw_g (lw_at lw_m13 154 rfl) rfl
theorem q3460 : (Jvm.Cond.code ({ cls := "TypeHouse$FontTable", name := "define", desc := "(ILTypeHouse$FileBytes;)V" } : Jvm.MethodName) prog_9_method_9_code (4 : Nat) (Option.none : Option Jvm.ClassFile.FieldType)) ∈ lw_all := lw_g (lw_at lw_m13 155 rfl) rfl
theorem q3461 : (Jvm.Cond.methodLink "TypeHouse$FontTable" (91 : Nat) ({ cls := "TypeHouse$FileBytes", name := "add", desc := "(I)V" } : Jvm.MethodName)) ∈ lw_all := lw_g (lw_at lw_m13 156 rfl) rfl
theorem q3462 : (Jvm.Cond.methodLinkNest "TypeHouse$FontTable" (97 : Nat) ({ cls := "TypeHouse$Font", name := "word", desc := "(II)I" } : Jvm.MethodName) "TypeHouse") ∈ lw_tbl := lw_at lw_m13 157 rfl
theorem q3463 : (Jvm.Cond.methodLink "TypeHouse$FontTable" (100 : Nat) ({ cls := "TypeHouse$FileBytes", name := "number", desc := "(II)V" } : Jvm.MethodName)) ∈ lw_all := lw_g (lw_at lw_m13 158 rfl) rfl
theorem q3464 : (Jvm.Cond.methodLink "TypeHouse$Writer" (119 : Nat) ({ cls := "TypeHouse$FontTable", name := "use", desc := "(I)V" } : Jvm.MethodName)) ∈ lw_all := lw_g (lw_at lw_m13 159 rfl) rfl
theorem q3465 : (Jvm.Cond.instanceMethod ({ cls := "TypeHouse$FontTable", name := "use", desc := "(I)V" } : Jvm.MethodName)) ∈ lw_all := lw_g (lw_at lw_m13 160 rfl) rfl
theorem q3466 : (Jvm.Cond.selects "TypeHouse$FontTable" ({ cls := "TypeHouse$FontTable", name := "use", desc := "(I)V" } : Jvm.MethodName) ({ cls := "TypeHouse$FontTable", name := "use", desc := "(I)V" } : Jvm.MethodName)) ∈ lw_all := lw_g (lw_at lw_m13 161 rfl) rfl
theorem q3467 : (Jvm.Cond.code ({ cls := "TypeHouse$FontTable", name := "use", desc := "(I)V" } : Jvm.MethodName) prog_9_method_7_code (2 : Nat) (Option.none : Option Jvm.ClassFile.FieldType)) ∈ lw_all := lw_g (lw_at lw_m13 162 rfl) rfl
theorem q3468 : (Jvm.Cond.constant "TypeHouse$Writer" (140 : Nat) (200000 : Int32)) ∈ lw_all := lw_g (lw_at lw_m13 163 rfl) rfl
theorem q3469 : (Jvm.Cond.methodLink "TypeHouse$Writer" (141 : Nat) ({ cls := "TypeHouse$FontTable", name := "forget", desc := "(I)V" } : Jvm.MethodName)) ∈ lw_all := lw_g (lw_at lw_m13 164 rfl) rfl
theorem q3470 : (Jvm.Cond.instanceMethod ({ cls := "TypeHouse$FontTable", name := "forget", desc := "(I)V" } : Jvm.MethodName)) ∈ lw_all := lw_g (lw_at lw_m13 165 rfl) rfl
theorem q3471 : (Jvm.Cond.selects "TypeHouse$FontTable" ({ cls := "TypeHouse$FontTable", name := "forget", desc := "(I)V" } : Jvm.MethodName) ({ cls := "TypeHouse$FontTable", name := "forget", desc := "(I)V" } : Jvm.MethodName)) ∈ lw_all := lw_g (lw_at lw_m13 166 rfl) rfl
theorem q3472 : (Jvm.Cond.code ({ cls := "TypeHouse$FontTable", name := "forget", desc := "(I)V" } : Jvm.MethodName) prog_9_method_8_code (2 : Nat) (Option.none : Option Jvm.ClassFile.FieldType)) ∈ lw_all := lw_g (lw_at lw_m13 167 rfl) rfl
theorem q3473 : (Jvm.Cond.methodLink "TypeHouse$Writer" (144 : Nat) ({ cls := "java/lang/Math", name := "max", desc := "(II)I" } : Jvm.MethodName)) ∈ lw_all := lw_g (lw_at lw_m13 168 rfl) rfl
theorem q3474 : (Jvm.Cond.methodLink "TypeHouse$Press" (434 : Nat) ({ cls := "TypeHouse$Settings", name := "set", desc := "(IIZ)V" } : Jvm.MethodName)) ∈ lw_all := lw_g (lw_at lw_m13 169 rfl) rfl
theorem q3475 : (Jvm.Cond.instanceMethod ({ cls := "TypeHouse$Settings", name := "set", desc := "(IIZ)V" } : Jvm.MethodName)) ∈ lw_all := lw_g (lw_at lw_m13 170 rfl) rfl
theorem q3476 : (Jvm.Cond.selects "TypeHouse$Settings" ({ cls := "TypeHouse$Settings", name := "set", desc := "(IIZ)V" } : Jvm.MethodName) ({ cls := "TypeHouse$Settings", name := "set", desc := "(IIZ)V" } : Jvm.MethodName)) ∈ lw_all := lw_g (lw_at lw_m13 171 rfl) rfl
theorem q3477 : (Jvm.Cond.code ({ cls := "TypeHouse$Settings", name := "set", desc := "(IIZ)V" } : Jvm.MethodName) prog_28_method_9_code (4 : Nat) (Option.none : Option Jvm.ClassFile.FieldType)) ∈ lw_all := lw_g (lw_at lw_m13 172 rfl) rfl
theorem q3480 : (Jvm.Cond.instanceMethod ({ cls := "TypeHouse$Press", name := "push", desc := "(I)V" } : Jvm.MethodName)) ∈ lw_all := lw_g (lw_at lw_m13 175 rfl) rfl
theorem q3481 : (Jvm.Cond.code ({ cls := "TypeHouse$Press", name := "push", desc := "(I)V" } : Jvm.MethodName) prog_26_method_6_code (2 : Nat) (Option.none : Option Jvm.ClassFile.FieldType)) ∈ lw_all := lw_g (lw_at lw_m13 176 rfl) rfl
theorem q3496 : (Jvm.Cond.instanceMethod ({ cls := "TypeHouse$Pool", name := "grow", desc := "()V" } : Jvm.MethodName)) ∈ lw_all := lw_g (lw_at lw_m13 191 rfl) rfl
theorem q3497 : (Jvm.Cond.code ({ cls := "TypeHouse$Pool", name := "grow", desc := "()V" } : Jvm.MethodName) prog_25_method_3_code (4 : Nat) (Option.none : Option Jvm.ClassFile.FieldType)) ∈ lw_all := lw_g (lw_at lw_m13 192 rfl) rfl
theorem q3498 : (Jvm.Cond.methodLink "TypeHouse$Pool" (29 : Nat) ({ cls := "java/lang/System", name := "arraycopy", desc := "(Ljava/lang/Object;ILjava/lang/Object;II)V" } : Jvm.MethodName)) ∈ lw_all := lw_g (lw_at lw_m13 193 rfl) rfl
theorem q3521 : (Jvm.Cond.fieldLinkNest "TypeHouse$Press" (327 : Nat) "TypeHouse$Box" "height" "I" "TypeHouse") ∈ lw_tbl := lw_at lw_m13 216 rfl
theorem q3525 : (Jvm.Cond.fieldLinkNest "TypeHouse$Press" (330 : Nat) "TypeHouse$Box" "depth" "I" "TypeHouse") ∈ lw_tbl := lw_at lw_m13 220 rfl
abbrev cX3_lay : ByteArray := prog_26_method_40_code
def yX3_lay : MethodName := ⟨RX3, "lay", "(LTypeHouse$Page;)V"⟩
def YX3_lay : eY := (yX3_lay, cX3_lay, 9, none, [])
theorem mX3_lay : e_mv YX3_lay RX3 1 := ⟨q3305, qs128, q3306, by decide, by decide +kernel, (e_sig (by decide +kernel))⟩
theorem dX3_lay_0 : decode cX3_lay 0 = .ok (.aload_n 0, 1) := dc_42 (by decide +kernel)
theorem dX3_lay_1 : decode cX3_lay 1 = .ok (.aload_n 1, 1) := dc_43 (by decide +kernel)
theorem dX3_lay_2 : decode cX3_lay 2 = .ok (.invokevirtual 611, 3) := dc_182 (a := 2) (b := 99) (n := 611) (by decide +kernel)
theorem dX3_lay_5 : decode cX3_lay 5 = .ok (.istore_n 2, 1) := dc_61 (by decide +kernel)
theorem dX3_lay_6 : decode cX3_lay 6 = .ok (.aload_n 0, 1) := dc_42 (by decide +kernel)
theorem dX3_lay_7 : decode cX3_lay 7 = .ok (.getfield 80, 3) := dc_180 (a := 0) (b := 80) (n := 80) (by decide +kernel)
theorem dX3_lay_10 : decode cX3_lay 10 = .ok (.iconst 0, 1) := dc_3 (by decide +kernel)
theorem dX3_lay_11 : decode cX3_lay 11 = .ok (.putfield 615, 3) := dc_181 (a := 2) (b := 103) (n := 615) (by decide +kernel)
theorem dX3_lay_14 : decode cX3_lay 14 = .ok (.aload_n 1, 1) := dc_43 (by decide +kernel)
theorem dX3_lay_15 : decode cX3_lay 15 = .ok (.aload_n 0, 1) := dc_42 (by decide +kernel)
theorem dX3_lay_16 : decode cX3_lay 16 = .ok (.getfield 94, 3) := dc_180 (a := 0) (b := 94) (n := 94) (by decide +kernel)
theorem dX3_lay_19 : decode cX3_lay 19 = .ok (.aload_n 0, 1) := dc_42 (by decide +kernel)
theorem dX3_lay_20 : decode cX3_lay 20 = .ok (.getfield 110, 3) := dc_180 (a := 0) (b := 110) (n := 110) (by decide +kernel)
theorem dX3_lay_23 : decode cX3_lay 23 = .ok (.invokevirtual 616, 3) := dc_182 (a := 2) (b := 104) (n := 616) (by decide +kernel)
theorem dX3_lay_26 : decode cX3_lay 26 = .ok (.aload_n 1, 1) := dc_43 (by decide +kernel)
theorem dX3_lay_27 : decode cX3_lay 27 = .ok (.getfield 590, 3) := dc_180 (a := 2) (b := 78) (n := 590) (by decide +kernel)
theorem dX3_lay_30 : decode cX3_lay 30 = .ok (.istore_n 3, 1) := dc_62 (by decide +kernel)
theorem dX3_lay_31 : decode cX3_lay 31 = .ok (.iload_n 3, 1) := dc_29 (by decide +kernel)
theorem dX3_lay_32 : decode cX3_lay 32 = .ok (.aload_n 1, 1) := dc_43 (by decide +kernel)
theorem dX3_lay_33 : decode cX3_lay 33 = .ok (.getfield 594, 3) := dc_180 (a := 2) (b := 82) (n := 594) (by decide +kernel)
theorem dX3_lay_36 : decode cX3_lay 36 = .ok (.if_icmp .ge 179, 3) := dc_162 (a := 0) (b := 179) (v := 179) (by decide +kernel)
theorem dX3_lay_39 : decode cX3_lay 39 = .ok (.aload_n 0, 1) := dc_42 (by decide +kernel)
theorem dX3_lay_40 : decode cX3_lay 40 = .ok (.getfield 94, 3) := dc_180 (a := 0) (b := 94) (n := 94) (by decide +kernel)
theorem dX3_lay_43 : decode cX3_lay 43 = .ok (.getfield 597, 3) := dc_180 (a := 2) (b := 85) (n := 597) (by decide +kernel)
theorem dX3_lay_46 : decode cX3_lay 46 = .ok (.iload_n 3, 1) := dc_29 (by decide +kernel)
theorem dX3_lay_47 : decode cX3_lay 47 = .ok (.baload, 1) := dc_51 (by decide +kernel)
theorem dX3_lay_48 : decode cX3_lay 48 = .ok (.ifCond .ne 145, 3) := dc_154 (a := 0) (b := 145) (v := 145) (by decide +kernel)
theorem dX3_lay_51 : decode cX3_lay 51 = .ok (.aload_n 0, 1) := dc_42 (by decide +kernel)
theorem dX3_lay_52 : decode cX3_lay 52 = .ok (.getfield 110, 3) := dc_180 (a := 0) (b := 110) (n := 110) (by decide +kernel)
theorem dX3_lay_55 : decode cX3_lay 55 = .ok (.getfield 620, 3) := dc_180 (a := 2) (b := 108) (n := 620) (by decide +kernel)
theorem dX3_lay_58 : decode cX3_lay 58 = .ok (.aload_n 0, 1) := dc_42 (by decide +kernel)
theorem dX3_lay_59 : decode cX3_lay 59 = .ok (.getfield 110, 3) := dc_180 (a := 0) (b := 110) (n := 110) (by decide +kernel)
theorem dX3_lay_62 : decode cX3_lay 62 = .ok (.getfield 624, 3) := dc_180 (a := 2) (b := 112) (n := 624) (by decide +kernel)
theorem dX3_lay_65 : decode cX3_lay 65 = .ok (.ladd, 1) := dc_97 (by decide +kernel)
theorem dX3_lay_66 : decode cX3_lay 66 = .ok (.aload_n 0, 1) := dc_42 (by decide +kernel)
theorem dX3_lay_67 : decode cX3_lay 67 = .ok (.getfield 94, 3) := dc_180 (a := 0) (b := 94) (n := 94) (by decide +kernel)
theorem dX3_lay_70 : decode cX3_lay 70 = .ok (.getfield 626, 3) := dc_180 (a := 2) (b := 114) (n := 626) (by decide +kernel)
theorem dX3_lay_73 : decode cX3_lay 73 = .ok (.iload_n 3, 1) := dc_29 (by decide +kernel)
theorem dX3_lay_74 : decode cX3_lay 74 = .ok (.iaload, 1) := dc_46 (by decide +kernel)
theorem dX3_lay_75 : decode cX3_lay 75 = .ok (.i2l, 1) := dc_133 (by decide +kernel)
theorem dX3_lay_76 : decode cX3_lay 76 = .ok (.ladd, 1) := dc_97 (by decide +kernel)
theorem dX3_lay_77 : decode cX3_lay 77 = .ok (.aload_n 1, 1) := dc_43 (by decide +kernel)
theorem dX3_lay_78 : decode cX3_lay 78 = .ok (.aload_n 0, 1) := dc_42 (by decide +kernel)
theorem dX3_lay_79 : decode cX3_lay 79 = .ok (.getfield 110, 3) := dc_180 (a := 0) (b := 110) (n := 110) (by decide +kernel)
theorem dX3_lay_82 : decode cX3_lay 82 = .ok (.invokevirtual 629, 3) := dc_182 (a := 2) (b := 117) (n := 629) (by decide +kernel)
theorem dX3_lay_85 : decode cX3_lay 85 = .ok (.ladd, 1) := dc_97 (by decide +kernel)
theorem dX3_lay_86 : decode cX3_lay 86 = .ok (.lstore 4, 2) := dc_55 (a := 4) (by decide +kernel)
theorem dX3_lay_88 : decode cX3_lay 88 = .ok (.aload_n 0, 1) := dc_42 (by decide +kernel)
theorem dX3_lay_89 : decode cX3_lay 89 = .ok (.getfield 94, 3) := dc_180 (a := 0) (b := 94) (n := 94) (by decide +kernel)
theorem dX3_lay_92 : decode cX3_lay 92 = .ok (.getfield 600, 3) := dc_180 (a := 2) (b := 88) (n := 600) (by decide +kernel)
theorem dX3_lay_95 : decode cX3_lay 95 = .ok (.iload_n 3, 1) := dc_29 (by decide +kernel)
theorem dX3_lay_96 : decode cX3_lay 96 = .ok (.iaload, 1) := dc_46 (by decide +kernel)
theorem dX3_lay_97 : decode cX3_lay 97 = .ok (.istore 6, 2) := dc_54 (a := 6) (by decide +kernel)
theorem dX3_lay_99 : decode cX3_lay 99 = .ok (.aload_n 0, 1) := dc_42 (by decide +kernel)
theorem dX3_lay_100 : decode cX3_lay 100 = .ok (.getfield 94, 3) := dc_180 (a := 0) (b := 94) (n := 94) (by decide +kernel)
theorem dX3_lay_103 : decode cX3_lay 103 = .ok (.getfield 601, 3) := dc_180 (a := 2) (b := 89) (n := 601) (by decide +kernel)
theorem dX3_lay_106 : decode cX3_lay 106 = .ok (.iload_n 3, 1) := dc_29 (by decide +kernel)
theorem dX3_lay_107 : decode cX3_lay 107 = .ok (.iaload, 1) := dc_46 (by decide +kernel)
theorem dX3_lay_108 : decode cX3_lay 108 = .ok (.istore 7, 2) := dc_54 (a := 7) (by decide +kernel)
theorem dX3_lay_110 : decode cX3_lay 110 = .ok (.iload 6, 2) := dc_21 (a := 6) (by decide +kernel)
theorem dX3_lay_112 : decode cX3_lay 112 = .ok (.iconst (-1), 1) := dc_2 (by decide +kernel)
theorem dX3_lay_113 : decode cX3_lay 113 = .ok (.if_icmp .eq 25, 3) := dc_159 (a := 0) (b := 25) (v := 25) (by decide +kernel)
theorem dX3_lay_116 : decode cX3_lay 116 = .ok (.aload_n 0, 1) := dc_42 (by decide +kernel)
theorem dX3_lay_117 : decode cX3_lay 117 = .ok (.getfield 80, 3) := dc_180 (a := 0) (b := 80) (n := 80) (by decide +kernel)
theorem dX3_lay_120 : decode cX3_lay 120 = .ok (.aload_n 0, 1) := dc_42 (by decide +kernel)
theorem dX3_lay_121 : decode cX3_lay 121 = .ok (.getfield 36, 3) := dc_180 (a := 0) (b := 36) (n := 36) (by decide +kernel)
theorem dX3_lay_124 : decode cX3_lay 124 = .ok (.iload 6, 2) := dc_21 (a := 6) (by decide +kernel)
theorem dX3_lay_126 : decode cX3_lay 126 = .ok (.aaload, 1) := dc_50 (by decide +kernel)
theorem dX3_lay_127 : decode cX3_lay 127 = .ok (.iload 7, 2) := dc_21 (a := 7) (by decide +kernel)
theorem dX3_lay_129 : decode cX3_lay 129 = .ok (.i2l, 1) := dc_133 (by decide +kernel)
theorem dX3_lay_130 : decode cX3_lay 130 = .ok (.lload 4, 2) := dc_22 (a := 4) (by decide +kernel)
theorem dX3_lay_132 : decode cX3_lay 132 = .ok (.invokevirtual 633, 3) := dc_182 (a := 2) (b := 121) (n := 633) (by decide +kernel)
theorem dX3_lay_135 : decode cX3_lay 135 = .ok (.goto 45, 3) := dc_167 (a := 0) (b := 45) (v := 45) (by decide +kernel)
theorem dX3_lay_138 : decode cX3_lay 138 = .ok (.aload_n 0, 1) := dc_42 (by decide +kernel)
theorem dX3_lay_139 : decode cX3_lay 139 = .ok (.getfield 80, 3) := dc_180 (a := 0) (b := 80) (n := 80) (by decide +kernel)
theorem dX3_lay_142 : decode cX3_lay 142 = .ok (.lconst 0, 1) := dc_9 (by decide +kernel)
theorem dX3_lay_143 : decode cX3_lay 143 = .ok (.lload 4, 2) := dc_22 (a := 4) (by decide +kernel)
theorem dX3_lay_145 : decode cX3_lay 145 = .ok (.iload 7, 2) := dc_21 (a := 7) (by decide +kernel)
theorem dX3_lay_147 : decode cX3_lay 147 = .ok (.ldc_w 326, 3) := dc_19 (a := 1) (b := 70) (n := 326) (by decide +kernel)
theorem dX3_lay_150 : decode cX3_lay 150 = .ok (.if_icmp .ne 7, 3) := dc_160 (a := 0) (b := 7) (v := 7) (by decide +kernel)
theorem dX3_lay_153 : decode cX3_lay 153 = .ok (.iload_n 2, 1) := dc_28 (by decide +kernel)
theorem dX3_lay_154 : decode cX3_lay 154 = .ok (.goto 5, 3) := dc_167 (a := 0) (b := 5) (v := 5) (by decide +kernel)
theorem dX3_lay_157 : decode cX3_lay 157 = .ok (.iload 7, 2) := dc_21 (a := 7) (by decide +kernel)
theorem dX3_lay_159 : decode cX3_lay 159 = .ok (.aload_n 0, 1) := dc_42 (by decide +kernel)
theorem dX3_lay_160 : decode cX3_lay 160 = .ok (.getfield 94, 3) := dc_180 (a := 0) (b := 94) (n := 94) (by decide +kernel)
theorem dX3_lay_163 : decode cX3_lay 163 = .ok (.getfield 626, 3) := dc_180 (a := 2) (b := 114) (n := 626) (by decide +kernel)
theorem dX3_lay_166 : decode cX3_lay 166 = .ok (.iload_n 3, 1) := dc_29 (by decide +kernel)
theorem dX3_lay_167 : decode cX3_lay 167 = .ok (.iaload, 1) := dc_46 (by decide +kernel)
theorem dX3_lay_168 : decode cX3_lay 168 = .ok (.aload_n 0, 1) := dc_42 (by decide +kernel)
theorem dX3_lay_169 : decode cX3_lay 169 = .ok (.getfield 94, 3) := dc_180 (a := 0) (b := 94) (n := 94) (by decide +kernel)
theorem dX3_lay_172 : decode cX3_lay 172 = .ok (.getfield 637, 3) := dc_180 (a := 2) (b := 125) (n := 637) (by decide +kernel)
theorem dX3_lay_175 : decode cX3_lay 175 = .ok (.iload_n 3, 1) := dc_29 (by decide +kernel)
theorem dX3_lay_176 : decode cX3_lay 176 = .ok (.iaload, 1) := dc_46 (by decide +kernel)
theorem dX3_lay_177 : decode cX3_lay 177 = .ok (.invokevirtual 640, 3) := dc_182 (a := 2) (b := 128) (n := 640) (by decide +kernel)
theorem dX3_lay_180 : decode cX3_lay 180 = .ok (.istore 8, 2) := dc_54 (a := 8) (by decide +kernel)
theorem dX3_lay_182 : decode cX3_lay 182 = .ok (.aload_n 0, 1) := dc_42 (by decide +kernel)
theorem dX3_lay_183 : decode cX3_lay 183 = .ok (.getfield 14, 3) := dc_180 (a := 0) (b := 14) (n := 14) (by decide +kernel)
theorem dX3_lay_186 : decode cX3_lay 186 = .ok (.iload 8, 2) := dc_21 (a := 8) (by decide +kernel)
theorem dX3_lay_188 : decode cX3_lay 188 = .ok (.bipush 17, 2) := dc_16 (a := 17) (v := 17) (by decide +kernel)
theorem dX3_lay_190 : decode cX3_lay 190 = .ok (.invokevirtual 289, 3) := dc_182 (a := 1) (b := 33) (n := 289) (by decide +kernel)
theorem dX3_lay_193 : decode cX3_lay 193 = .ok (.aload_n 0, 1) := dc_42 (by decide +kernel)
theorem dX3_lay_194 : decode cX3_lay 194 = .ok (.getfield 110, 3) := dc_180 (a := 0) (b := 110) (n := 110) (by decide +kernel)
theorem dX3_lay_197 : decode cX3_lay 197 = .ok (.aload_n 0, 1) := dc_42 (by decide +kernel)
theorem dX3_lay_198 : decode cX3_lay 198 = .ok (.getfield 94, 3) := dc_180 (a := 0) (b := 94) (n := 94) (by decide +kernel)
theorem dX3_lay_201 : decode cX3_lay 201 = .ok (.iload_n 3, 1) := dc_29 (by decide +kernel)
theorem dX3_lay_202 : decode cX3_lay 202 = .ok (.aload_n 1, 1) := dc_43 (by decide +kernel)
theorem dX3_lay_203 : decode cX3_lay 203 = .ok (.getfield 643, 3) := dc_180 (a := 2) (b := 131) (n := 643) (by decide +kernel)
theorem dX3_lay_206 : decode cX3_lay 206 = .ok (.invokevirtual 644, 3) := dc_182 (a := 2) (b := 132) (n := 644) (by decide +kernel)
theorem dX3_lay_209 : decode cX3_lay 209 = .ok (.iinc 3 1, 3) := dc_132 (a := 3) (b := 1) (v := 1) (by decide +kernel)
theorem dX3_lay_212 : decode cX3_lay 212 = .ok (.goto (-181), 3) := dc_167 (a := 255) (b := 75) (v := -181) (by decide +kernel)
theorem dX3_lay_215 : decode cX3_lay 215 = .ok (.return_, 1) := dc_177 (by decide +kernel)
theorem GX3_110 {w : eW} {d : Nat} {Y : eY} {pc : Nat} {ls : eL} {st : List Value} {h : eH} {Q : eO → eH → Prop} {a : Nat} {x : Nat} (hf : g_A 2 h a 14 = some x) (hd : decode Y.2.1 pc = .ok (.getfield 110, 3)) (hY : Y.1.cls = RX3) (kk : wp w d Y (pc + 3) ls (.ref x :: st) h Q) : wp w d Y pc ls (.ref a :: st) h Q := x_gA (ci := 2) (k := 14) hf hd rfl (by decide) (by rw [hY]; exact q1805) kk
theorem GX3_620 {w : eW} {d : Nat} {Y : eY} {pc : Nat} {ls : eL} {st : List Value} {h : eH} {Q : eO → eH → Prop} {a : Nat} {x : Int64} (hf : g_J 28 h a 2 = some x) (hd : decode Y.2.1 pc = .ok (.getfield 620, 3)) (hY : Y.1.cls = RX3) (kk : wp w d Y (pc + 3) ls (.long x :: st) h Q) : wp w d Y pc ls (.ref a :: st) h Q := x_gJN (ci := 28) (k := 2) hf hd rfl (by decide) (by rw [hY]; exact q1545) kk
theorem GX3_624 {w : eW} {d : Nat} {Y : eY} {pc : Nat} {ls : eL} {st : List Value} {h : eH} {Q : eO → eH → Prop} {a : Nat} {x : Int64} (hf : g_J 28 h a 3 = some x) (hd : decode Y.2.1 pc = .ok (.getfield 624, 3)) (hY : Y.1.cls = RX3) (kk : wp w d Y (pc + 3) ls (.long x :: st) h Q) : wp w d Y pc ls (.ref a :: st) h Q := x_gJN (ci := 28) (k := 3) hf hd rfl (by decide) (by rw [hY]; exact q1547) kk
theorem GX3_626 {w : eW} {d : Nat} {Y : eY} {pc : Nat} {ls : eL} {st : List Value} {h : eH} {Q : eO → eH → Prop} {a : Nat} {x : Nat} (hf : g_A 26 h a 2 = some x) (hd : decode Y.2.1 pc = .ok (.getfield 626, 3)) (hY : Y.1.cls = RX3) (kk : wp w d Y (pc + 3) ls (.ref x :: st) h Q) : wp w d Y pc ls (.ref a :: st) h Q := x_gAN (ci := 26) (k := 2) hf hd rfl (by decide) (by rw [hY]; exact q1501) kk
theorem GX3_637 {w : eW} {d : Nat} {Y : eY} {pc : Nat} {ls : eL} {st : List Value} {h : eH} {Q : eO → eH → Prop} {a : Nat} {x : Nat} (hf : g_A 26 h a 3 = some x) (hd : decode Y.2.1 pc = .ok (.getfield 637, 3)) (hY : Y.1.cls = RX3) (kk : wp w d Y (pc + 3) ls (.ref x :: st) h Q) : wp w d Y pc ls (.ref a :: st) h Q := x_gAN (ci := 26) (k := 3) hf hd rfl (by decide) (by rw [hY]; exact q1504) kk
theorem GX3_643 {w : eW} {d : Nat} {Y : eY} {pc : Nat} {ls : eL} {st : List Value} {h : eH} {Q : eO → eH → Prop} {a : Nat} {x : Int32} (hf : g_I 29 h a 3 = some x) (hd : decode Y.2.1 pc = .ok (.getfield 643, 3)) (hY : Y.1.cls = RX3) (kk : wp w d Y (pc + 3) ls (.int x :: st) h Q) : wp w d Y pc ls (.ref a :: st) h Q := x_gIN (ci := 29) (k := 3) hf hd rfl (by decide) (by rw [hY]; exact q1572) kk
theorem GX3_80 {w : eW} {d : Nat} {Y : eY} {pc : Nat} {ls : eL} {st : List Value} {h : eH} {Q : eO → eH → Prop} {a : Nat} {x : Nat} (hf : g_A 2 h a 10 = some x) (hd : decode Y.2.1 pc = .ok (.getfield 80, 3)) (hY : Y.1.cls = RX3) (kk : wp w d Y (pc + 3) ls (.ref x :: st) h Q) : wp w d Y pc ls (.ref a :: st) h Q := x_gA (ci := 2) (k := 10) hf hd rfl (by decide) (by rw [hY]; exact q1801) kk
theorem SX3_615 {w : eW} {d : Nat} {Y : eY} {pc : Nat} {ls : eL} {st : List Value} {h : eH} {Q : eO → eH → Prop} {a : Nat} {h' : eH} {x : Int32} (hf : p_V 19 h a 3 (.int x) = some h') (hd : decode Y.2.1 pc = .ok (.putfield 615, 3)) (hY : Y.1.cls = RX3) (kk : wp w d Y (pc + 3) ls st h' Q) : wp w d Y pc ls (.int x :: .ref a :: st) h Q := x_pIN (ci := 19) (k := 3) hf hd rfl (by decide) (by rw [hY]; exact q1206) rfl rfl kk
def fX3_lay_b193 (N : Nat) (k31 : Nat → Nat → Int32 → Int32 → eH → Option ((Unit ⊕ Nat) × eH)) (l0 : Nat) (l1 : Nat) (l2 : Int32) (l3 : Int32) (h : eH) : Option ((Unit ⊕ Nat) × eH) :=
  (g_A 2 h l0 14).bind fun a1 =>
  (g_A 2 h l0 12).bind fun a3 =>
  (g_I 29 h l1 3).bind fun x5 =>
  (k_ok 28 h a1).bind fun _ =>
  (fX29_add a1 a3 l3 x5 h).bind fun q8 =>
  k31 l0 l1 l2 (l3 + (1 : Int32)) q8.2
theorem pX3_lay_b193 {w : eW} {d : Nat} (hd : 8 ≤ d + 1) {N : Nat} {k31 : Nat → Nat → Int32 → Int32 → eH → Option ((Unit ⊕ Nat) × eH)} (hk31 : ∀ l0 l1 l2 l3 h q, k31 l0 l1 l2 l3 h = some q → wp w (d + 1) YX3_lay 31 [some (.ref l0), some (.ref l1), some (.int l2), some (.int l3), none, none, none, none, none] [] h (e_is (e_rt c_V q))) {l0 : Nat} {l1 : Nat} {l2 : Int32} {l3 : Int32} {h : eH} {q} (hf : fX3_lay_b193 N k31 l0 l1 l2 l3 h = some q) : wp w (d + 1) YX3_lay 193 [some (.ref l0), some (.ref l1), some (.int l2), some (.int l3), none, none, none, none, none] [] h (e_is (e_rt c_V q)) := by
  unfold fX3_lay_b193 at hf
  refine w_aload_n dX3_lay_193 rfl rfl ?_
  obtain ⟨a1, b2, hf⟩ := Option.bind_eq_some_iff.mp hf
  refine GX3_110 b2 dX3_lay_194 rfl ?_
  refine w_aload_n dX3_lay_197 rfl rfl ?_
  obtain ⟨a3, b4, hf⟩ := Option.bind_eq_some_iff.mp hf
  refine GX3_94 b4 dX3_lay_198 rfl ?_
  refine w_iload_n dX3_lay_201 rfl rfl ?_
  refine w_aload_n dX3_lay_202 rfl rfl ?_
  obtain ⟨x5, b6, hf⟩ := Option.bind_eq_some_iff.mp hf
  refine GX3_643 b6 dX3_lay_203 rfl ?_
  obtain ⟨_, b7, hf⟩ := Option.bind_eq_some_iff.mp hf
  refine x_cnV hf (e_stV (Yc := YX29_add) (ci := 28) (av := [.ref a3, .int l3, .int x5]) (st := []) dX3_lay_206 q3368 mX29_add rfl (k_ok_some b7).1 (k_ok_some b7).2) mX29_add.2.2.1 mX29_add.2.2.2.2.1 (Nat.le_of_ble_eq_true rfl) (Nat.le_of_ble_eq_true rfl) (fun q hq => pX29_add (by omega) hq) (fun q8 hf => ?_)
  refine w_iinc dX3_lay_209 (v := (l3 + (1 : Int32))) rfl rfl (by decide) (ls' := [some (.ref l0), some (.ref l1), some (.int l2), some (.int (l3 + (1 : Int32))), none, none, none, none, none]) rfl ?_
  refine w_goto 31 dX3_lay_212 (by decide) ?_
  exact (hk31 _ _ _ _ _ _ hf).to ⟨rfl, rfl, rfl, rfl, trivial⟩
def fX3_lay_b180 (N : Nat) (k31 : Nat → Nat → Int32 → Int32 → eH → Option ((Unit ⊕ Nat) × eH)) (l0 : Nat) (l1 : Nat) (l2 : Int32) (l3 : Int32) (s0 : Int32) (h : eH) : Option ((Unit ⊕ Nat) × eH) :=
  (g_A 2 h l0 0).bind fun a1 =>
  (k_ok 3 h a1).bind fun _ =>
  t_B (fX4_want a1 s0 (17 : Int32) h) fun x4 h5 =>
  fX3_lay_b193 N k31 l0 l1 l2 l3 h5
theorem pX3_lay_b180 {w : eW} {d : Nat} (hd : 8 ≤ d + 1) {N : Nat} {k31 : Nat → Nat → Int32 → Int32 → eH → Option ((Unit ⊕ Nat) × eH)} (hk31 : ∀ l0 l1 l2 l3 h q, k31 l0 l1 l2 l3 h = some q → wp w (d + 1) YX3_lay 31 [some (.ref l0), some (.ref l1), some (.int l2), some (.int l3), none, none, none, none, none] [] h (e_is (e_rt c_V q))) {l0 : Nat} {l1 : Nat} {l2 : Int32} {l3 : Int32} {s0 : Int32} {h : eH} {q} (hf : fX3_lay_b180 N k31 l0 l1 l2 l3 s0 h = some q) : wp w (d + 1) YX3_lay 180 [some (.ref l0), some (.ref l1), some (.int l2), some (.int l3), none, none, none, none, none] [.int s0] h (e_is (e_rt c_V q)) := by
  unfold fX3_lay_b180 at hf
  refine w_istore dX3_lay_180 (by decide) (ls' := [some (.ref l0), some (.ref l1), some (.int l2), some (.int l3), none, none, none, none, some (.int s0)]) rfl ?_
  refine w_aload_n dX3_lay_182 rfl rfl ?_
  obtain ⟨a1, b2, hf⟩ := Option.bind_eq_some_iff.mp hf
  refine GX3_14 b2 dX3_lay_183 rfl ?_
  refine w_iload dX3_lay_186 rfl ?_
  refine w_bipush dX3_lay_188 (v := 17) (by decide) ?_
  obtain ⟨_, b3, hf⟩ := Option.bind_eq_some_iff.mp hf
  refine x_ctV hf (e_stV (Yc := YX4_want) (ci := 3) (av := [.int s0, .int (17 : Int32)]) (st := []) dX3_lay_190 q2846 mX4_want rfl (k_ok_some b3).1 (k_ok_some b3).2) mX4_want.2.2.1 mX4_want.2.2.2.2.1 (Nat.le_of_ble_eq_true rfl) (Nat.le_of_ble_eq_true rfl) rfl (fun q hq => pX4_want (by omega) hq) (fun x4 h5 hf => ?_)
  exact (pX3_lay_b193 hd hk31 hf).to ⟨rfl, rfl, rfl, rfl, trivial⟩
def fX3_lay_b159 (N : Nat) (k31 : Nat → Nat → Int32 → Int32 → eH → Option ((Unit ⊕ Nat) × eH)) (l0 : Nat) (l1 : Nat) (l2 : Int32) (l3 : Int32) (s0 : Nat) (s1 : Int64) (s2 : Int64) (s3 : Int32) (h : eH) : Option ((Unit ⊕ Nat) × eH) :=
  (g_A 2 h l0 12).bind fun a1 =>
  (g_A 26 h a1 2).bind fun a3 =>
  (r_I 100 h a3 l3).bind fun x5 =>
  (g_A 2 h l0 12).bind fun a7 =>
  (g_A 26 h a7 3).bind fun a9 =>
  (r_I 100 h a9 l3).bind fun x11 =>
  (k_ok 19 h s0).bind fun _ =>
  (fX20_line s0 s1 s2 s3 x5 x11 h).bind fun q14 =>
  fX3_lay_b180 N k31 l0 l1 l2 l3 q14.1 q14.2
theorem pX3_lay_b159 {w : eW} {d : Nat} (hd : 8 ≤ d + 1) {N : Nat} {k31 : Nat → Nat → Int32 → Int32 → eH → Option ((Unit ⊕ Nat) × eH)} (hk31 : ∀ l0 l1 l2 l3 h q, k31 l0 l1 l2 l3 h = some q → wp w (d + 1) YX3_lay 31 [some (.ref l0), some (.ref l1), some (.int l2), some (.int l3), none, none, none, none, none] [] h (e_is (e_rt c_V q))) {l0 : Nat} {l1 : Nat} {l2 : Int32} {l3 : Int32} {s0 : Nat} {s1 : Int64} {s2 : Int64} {s3 : Int32} {h : eH} {q} (hf : fX3_lay_b159 N k31 l0 l1 l2 l3 s0 s1 s2 s3 h = some q) : wp w (d + 1) YX3_lay 159 [some (.ref l0), some (.ref l1), some (.int l2), some (.int l3), none, none, none, none, none] [.int s3, .long s2, .long s1, .ref s0] h (e_is (e_rt c_V q)) := by
  unfold fX3_lay_b159 at hf
  refine w_aload_n dX3_lay_159 rfl rfl ?_
  obtain ⟨a1, b2, hf⟩ := Option.bind_eq_some_iff.mp hf
  refine GX3_94 b2 dX3_lay_160 rfl ?_
  obtain ⟨a3, b4, hf⟩ := Option.bind_eq_some_iff.mp hf
  refine GX3_626 b4 dX3_lay_163 rfl ?_
  refine w_iload_n dX3_lay_166 rfl rfl ?_
  obtain ⟨x5, b6, hf⟩ := Option.bind_eq_some_iff.mp hf
  refine x_rI b6 dX3_lay_167 ?_
  refine w_aload_n dX3_lay_168 rfl rfl ?_
  obtain ⟨a7, b8, hf⟩ := Option.bind_eq_some_iff.mp hf
  refine GX3_94 b8 dX3_lay_169 rfl ?_
  obtain ⟨a9, b10, hf⟩ := Option.bind_eq_some_iff.mp hf
  refine GX3_637 b10 dX3_lay_172 rfl ?_
  refine w_iload_n dX3_lay_175 rfl rfl ?_
  obtain ⟨x11, b12, hf⟩ := Option.bind_eq_some_iff.mp hf
  refine x_rI b12 dX3_lay_176 ?_
  obtain ⟨_, b13, hf⟩ := Option.bind_eq_some_iff.mp hf
  refine x_cnI hf (e_stV (Yc := YX20_line) (ci := 19) (av := [.long s1, .long s2, .int s3, .int x5, .int x11]) (st := []) dX3_lay_177 q3364 mX20_line rfl (k_ok_some b13).1 (k_ok_some b13).2) mX20_line.2.2.1 mX20_line.2.2.2.2.1 (Nat.le_of_ble_eq_true rfl) (Nat.le_of_ble_eq_true rfl) (fun q hq => pX20_line (by omega) hq) (fun q14 hf => ?_)
  exact (pX3_lay_b180 hd hk31 hf).to ⟨rfl, rfl, rfl, rfl, trivial⟩
def fX3_lay_b31 (N : Nat) : Nat → Nat → Nat → Int32 → Int32 → eH → Option ((Unit ⊕ Nat) × eH)
  | 0, _, _, _, _, _ => none
  | n + 1, l0, l1, l2, l3, h =>
    (g_I 29 h l1 5).bind fun x1 =>
    if x1 ≤ l3 then
      some (.inl (), h)
    else
      (g_A 2 h l0 12).bind fun a4 =>
      (g_A 26 h a4 0).bind fun a6 =>
      (r_I 102 h a6 l3).bind fun x8 =>
      if ¬ x8 = 0 then
        fX3_lay_b193 N (fX3_lay_b31 N n) l0 l1 l2 l3 h
      else
        (g_A 2 h l0 14).bind fun a11 =>
        (g_J 28 h a11 2).bind fun x13 =>
        (g_A 2 h l0 14).bind fun a15 =>
        (g_J 28 h a15 3).bind fun x17 =>
        (g_A 2 h l0 12).bind fun a19 =>
        (g_A 26 h a19 2).bind fun a21 =>
        (r_I 100 h a21 l3).bind fun x23 =>
        (g_A 2 h l0 14).bind fun a25 =>
        (k_ok 29 h l1).bind fun _ =>
        (fX30_share N l1 a25 h).bind fun q28 =>
        (g_A 2 q28.2 l0 12).bind fun a29 =>
        (g_A 26 q28.2 a29 1).bind fun a31 =>
        (r_I 100 q28.2 a31 l3).bind fun x33 =>
        (g_A 2 q28.2 l0 12).bind fun a35 =>
        (g_A 26 q28.2 a35 5).bind fun a37 =>
        (r_I 100 q28.2 a37 l3).bind fun x39 =>
        if x33 = (-1 : Int32) then
          (g_A 2 q28.2 l0 10).bind fun a42 =>
          if ¬ x39 = (-1073741824 : Int32) then
            fX3_lay_b159 N (fX3_lay_b31 N n) l0 l1 l2 l3 a42 (0 : Int64) (((x13 + x17) + (x23).toInt64) + q28.1) x39 q28.2
          else
            fX3_lay_b159 N (fX3_lay_b31 N n) l0 l1 l2 l3 a42 (0 : Int64) (((x13 + x17) + (x23).toInt64) + q28.1) l2 q28.2
        else
          (g_A 2 q28.2 l0 10).bind fun a45 =>
          (g_A 2 q28.2 l0 3).bind fun a47 =>
          (r_A 104 q28.2 a47 x33).bind fun a49 =>
          (k_ok 19 q28.2 a45).bind fun _ =>
          (fX20_lay N a45 a49 (x39).toInt64 (((x13 + x17) + (x23).toInt64) + q28.1) q28.2).bind fun q52 =>
          fX3_lay_b180 N (fX3_lay_b31 N n) l0 l1 l2 l3 q52.1 q52.2
theorem pX3_lay_b31 {w : eW} {d : Nat} (hd : 8 ≤ d + 1) {N : Nat} : ∀ (n : Nat) l0 l1 l2 l3 h q, fX3_lay_b31 N n l0 l1 l2 l3 h = some q → wp w (d + 1) YX3_lay 31 [some (.ref l0), some (.ref l1), some (.int l2), some (.int l3), none, none, none, none, none] [] h (e_is (e_rt c_V q)) := by
  intro n
  induction n with
  | zero => intro l0 l1 l2 l3 h q hf; simp [fX3_lay_b31] at hf
  | succ n ih =>
    intro l0 l1 l2 l3 h q hf
    rw [fX3_lay_b31] at hf
    refine w_iload_n dX3_lay_31 rfl rfl ?_
    refine w_aload_n dX3_lay_32 rfl rfl ?_
    obtain ⟨x1, b2, hf⟩ := Option.bind_eq_some_iff.mp hf
    refine GX3_594 b2 dX3_lay_33 rfl ?_
    refine w_icmp_ge 215 dX3_lay_36 (by decide) (fun c3 => ?_) (fun c3 => ?_)
    · replace hf := (if_pos (show x1 ≤ l3 from c3)).symm.trans hf
      cases hf
      exact w_vret dX3_lay_215 rfl rfl
    · replace hf := (if_neg (show ¬ (x1 ≤ l3) from c3)).symm.trans hf
      refine w_aload_n dX3_lay_39 rfl rfl ?_
      obtain ⟨a4, b5, hf⟩ := Option.bind_eq_some_iff.mp hf
      refine GX3_94 b5 dX3_lay_40 rfl ?_
      obtain ⟨a6, b7, hf⟩ := Option.bind_eq_some_iff.mp hf
      refine GX3_597 b7 dX3_lay_43 rfl ?_
      refine w_iload_n dX3_lay_46 rfl rfl ?_
      obtain ⟨x8, b9, hf⟩ := Option.bind_eq_some_iff.mp hf
      refine x_rB b9 dX3_lay_47 ?_
      refine w_if_ne 193 dX3_lay_48 (by decide) (fun c10 => ?_) (fun c10 => ?_)
      · replace hf := (if_pos (show ¬ x8 = 0 from c10)).symm.trans hf
        exact (pX3_lay_b193 hd ih hf).to ⟨rfl, rfl, rfl, rfl, trivial⟩
      · replace hf := (if_neg (show ¬ (¬ x8 = 0) from (fun z => z c10))).symm.trans hf
        refine w_aload_n dX3_lay_51 rfl rfl ?_
        obtain ⟨a11, b12, hf⟩ := Option.bind_eq_some_iff.mp hf
        refine GX3_110 b12 dX3_lay_52 rfl ?_
        obtain ⟨x13, b14, hf⟩ := Option.bind_eq_some_iff.mp hf
        refine GX3_620 b14 dX3_lay_55 rfl ?_
        refine w_aload_n dX3_lay_58 rfl rfl ?_
        obtain ⟨a15, b16, hf⟩ := Option.bind_eq_some_iff.mp hf
        refine GX3_110 b16 dX3_lay_59 rfl ?_
        obtain ⟨x17, b18, hf⟩ := Option.bind_eq_some_iff.mp hf
        refine GX3_624 b18 dX3_lay_62 rfl ?_
        refine w_ladd dX3_lay_65 ?_
        refine w_aload_n dX3_lay_66 rfl rfl ?_
        obtain ⟨a19, b20, hf⟩ := Option.bind_eq_some_iff.mp hf
        refine GX3_94 b20 dX3_lay_67 rfl ?_
        obtain ⟨a21, b22, hf⟩ := Option.bind_eq_some_iff.mp hf
        refine GX3_626 b22 dX3_lay_70 rfl ?_
        refine w_iload_n dX3_lay_73 rfl rfl ?_
        obtain ⟨x23, b24, hf⟩ := Option.bind_eq_some_iff.mp hf
        refine x_rI b24 dX3_lay_74 ?_
        refine w_i2l dX3_lay_75 ?_
        refine w_ladd dX3_lay_76 ?_
        refine w_aload_n dX3_lay_77 rfl rfl ?_
        refine w_aload_n dX3_lay_78 rfl rfl ?_
        obtain ⟨a25, b26, hf⟩ := Option.bind_eq_some_iff.mp hf
        refine GX3_110 b26 dX3_lay_79 rfl ?_
        obtain ⟨_, b27, hf⟩ := Option.bind_eq_some_iff.mp hf
        refine x_cnJ hf (e_stV (Yc := YX30_share) (ci := 29) (av := [.ref a25]) (st := [.long ((x13 + x17) + (x23).toInt64)]) dX3_lay_82 q3317 mX30_share rfl (k_ok_some b27).1 (k_ok_some b27).2) mX30_share.2.2.1 mX30_share.2.2.2.2.1 (Nat.le_of_ble_eq_true rfl) (Nat.le_of_ble_eq_true rfl) (fun q hq => pX30_share (by omega) hq) (fun q28 hf => ?_)
        refine w_ladd dX3_lay_85 ?_
        refine w_lstore dX3_lay_86 (by decide) (ls' := [some (.ref l0), some (.ref l1), some (.int l2), some (.int l3), some (.long (((x13 + x17) + (x23).toInt64) + q28.1)), none, none, none, none]) rfl ?_
        refine w_aload_n dX3_lay_88 rfl rfl ?_
        obtain ⟨a29, b30, hf⟩ := Option.bind_eq_some_iff.mp hf
        refine GX3_94 b30 dX3_lay_89 rfl ?_
        obtain ⟨a31, b32, hf⟩ := Option.bind_eq_some_iff.mp hf
        refine GX3_600 b32 dX3_lay_92 rfl ?_
        refine w_iload_n dX3_lay_95 rfl rfl ?_
        obtain ⟨x33, b34, hf⟩ := Option.bind_eq_some_iff.mp hf
        refine x_rI b34 dX3_lay_96 ?_
        refine w_istore dX3_lay_97 (by decide) (ls' := [some (.ref l0), some (.ref l1), some (.int l2), some (.int l3), some (.long (((x13 + x17) + (x23).toInt64) + q28.1)), none, some (.int x33), none, none]) rfl ?_
        refine w_aload_n dX3_lay_99 rfl rfl ?_
        obtain ⟨a35, b36, hf⟩ := Option.bind_eq_some_iff.mp hf
        refine GX3_94 b36 dX3_lay_100 rfl ?_
        obtain ⟨a37, b38, hf⟩ := Option.bind_eq_some_iff.mp hf
        refine GX3_601 b38 dX3_lay_103 rfl ?_
        refine w_iload_n dX3_lay_106 rfl rfl ?_
        obtain ⟨x39, b40, hf⟩ := Option.bind_eq_some_iff.mp hf
        refine x_rI b40 dX3_lay_107 ?_
        refine w_istore dX3_lay_108 (by decide) (ls' := [some (.ref l0), some (.ref l1), some (.int l2), some (.int l3), some (.long (((x13 + x17) + (x23).toInt64) + q28.1)), none, some (.int x33), some (.int x39), none]) rfl ?_
        refine w_iload dX3_lay_110 rfl ?_
        refine w_iconst dX3_lay_112 (v := -1) (by decide) ?_
        refine w_icmp_eq 138 dX3_lay_113 (by decide) (fun c41 => ?_) (fun c41 => ?_)
        · replace hf := (if_pos (show x33 = (-1 : Int32) from c41)).symm.trans hf
          refine w_aload_n dX3_lay_138 rfl rfl ?_
          obtain ⟨a42, b43, hf⟩ := Option.bind_eq_some_iff.mp hf
          refine GX3_80 b43 dX3_lay_139 rfl ?_
          refine w_lconst dX3_lay_142 (v := 0) (by decide) ?_
          refine w_lload dX3_lay_143 rfl ?_
          refine w_iload dX3_lay_145 rfl ?_
          refine w_ldc_w dX3_lay_147 q3211 ?_
          refine w_icmp_ne 157 dX3_lay_150 (by decide) (fun c44 => ?_) (fun c44 => ?_)
          · replace hf := (if_pos (show ¬ x39 = (-1073741824 : Int32) from c44)).symm.trans hf
            refine w_iload dX3_lay_157 rfl ?_
            exact (pX3_lay_b159 hd ih hf).to ⟨rfl, rfl, rfl, rfl, trivial⟩
          · replace hf := (if_neg (show ¬ (¬ x39 = (-1073741824 : Int32)) from (fun z => z c44))).symm.trans hf
            refine w_iload_n dX3_lay_153 rfl rfl ?_
            refine w_goto 159 dX3_lay_154 (by decide) ?_
            exact (pX3_lay_b159 hd ih hf).to ⟨rfl, rfl, rfl, rfl, trivial⟩
        · replace hf := (if_neg (show ¬ (x33 = (-1 : Int32)) from c41)).symm.trans hf
          refine w_aload_n dX3_lay_116 rfl rfl ?_
          obtain ⟨a45, b46, hf⟩ := Option.bind_eq_some_iff.mp hf
          refine GX3_80 b46 dX3_lay_117 rfl ?_
          refine w_aload_n dX3_lay_120 rfl rfl ?_
          obtain ⟨a47, b48, hf⟩ := Option.bind_eq_some_iff.mp hf
          refine GX3_36 b48 dX3_lay_121 rfl ?_
          refine w_iload dX3_lay_124 rfl ?_
          obtain ⟨a49, b50, hf⟩ := Option.bind_eq_some_iff.mp hf
          refine x_rA (c := 104) (by decide) b50 dX3_lay_126 ?_
          refine w_iload dX3_lay_127 rfl ?_
          refine w_i2l dX3_lay_129 ?_
          refine w_lload dX3_lay_130 rfl ?_
          obtain ⟨_, b51, hf⟩ := Option.bind_eq_some_iff.mp hf
          refine x_cnI hf (e_stV (Yc := YX20_lay) (ci := 19) (av := [.ref a49, .long (x39).toInt64, .long (((x13 + x17) + (x23).toInt64) + q28.1)]) (st := []) dX3_lay_132 q3326 mX20_lay rfl (k_ok_some b51).1 (k_ok_some b51).2) mX20_lay.2.2.1 mX20_lay.2.2.2.2.1 (Nat.le_of_ble_eq_true rfl) (Nat.le_of_ble_eq_true rfl) (fun q hq => pX20_lay (by omega) hq) (fun q52 hf => ?_)
          refine w_goto 180 dX3_lay_135 (by decide) ?_
          exact (pX3_lay_b180 hd ih hf).to ⟨rfl, rfl, rfl, rfl, trivial⟩
def fX3_lay (N : Nat) (this : Nat) (p0 : Nat) (h : eH) : Option ((Unit ⊕ Nat) × eH) :=
  (k_ok 2 h this).bind fun _ =>
  (fX3_widthOf N this p0 h).bind fun q2 =>
  (g_A 2 q2.2 this 10).bind fun a3 =>
  (p_V 19 q2.2 a3 3 (.int (0 : Int32))).bind fun h5 =>
  (g_A 2 h5 this 12).bind fun a7 =>
  (g_A 2 h5 this 14).bind fun a9 =>
  (k_ok 29 h5 p0).bind fun _ =>
  (fX30_crown N p0 a7 a9 h5).bind fun q12 =>
  (g_I 29 q12.2 p0 4).bind fun x13 =>
  fX3_lay_b31 N N this p0 q2.1 x13 q12.2
theorem pX3_lay {w : eW} {d : Nat} (hd : 8 ≤ d) {N : Nat} {this : Nat} {p0 : Nat} {h : eH} {q} (hf : fX3_lay N this p0 h = some q) : wm w d YX3_lay [.ref this, .ref p0] h (e_is (e_rt c_V q)) := by
  obtain ⟨d, rfl⟩ : ∃ e, d = e + 1 := ⟨d - 1, by omega⟩
  show wp w (d + 1) YX3_lay 0 [some (.ref this), some (.ref p0), none, none, none, none, none, none, none] [] h _
  unfold fX3_lay at hf
  refine w_aload_n dX3_lay_0 rfl rfl ?_
  refine w_aload_n dX3_lay_1 rfl rfl ?_
  obtain ⟨_, b1, hf⟩ := Option.bind_eq_some_iff.mp hf
  refine x_cnI hf (e_stV (Yc := YX3_widthOf) (ci := 2) (av := [.ref p0]) (st := []) dX3_lay_2 q3307 mX3_widthOf rfl (k_ok_some b1).1 (k_ok_some b1).2) mX3_widthOf.2.2.1 mX3_widthOf.2.2.2.2.1 (Nat.le_of_ble_eq_true rfl) (Nat.le_of_ble_eq_true rfl) (fun q hq => pX3_widthOf (by omega) hq) (fun q2 hf => ?_)
  refine w_istore_n dX3_lay_5 rfl (by decide) (ls' := [some (.ref this), some (.ref p0), some (.int q2.1), none, none, none, none, none, none]) rfl ?_
  refine w_aload_n dX3_lay_6 rfl rfl ?_
  obtain ⟨a3, b4, hf⟩ := Option.bind_eq_some_iff.mp hf
  refine GX3_80 b4 dX3_lay_7 rfl ?_
  refine w_iconst dX3_lay_10 (v := 0) (by decide) ?_
  obtain ⟨h5, b6, hf⟩ := Option.bind_eq_some_iff.mp hf
  refine SX3_615 b6 dX3_lay_11 rfl ?_
  refine w_aload_n dX3_lay_14 rfl rfl ?_
  refine w_aload_n dX3_lay_15 rfl rfl ?_
  obtain ⟨a7, b8, hf⟩ := Option.bind_eq_some_iff.mp hf
  refine GX3_94 b8 dX3_lay_16 rfl ?_
  refine w_aload_n dX3_lay_19 rfl rfl ?_
  obtain ⟨a9, b10, hf⟩ := Option.bind_eq_some_iff.mp hf
  refine GX3_110 b10 dX3_lay_20 rfl ?_
  obtain ⟨_, b11, hf⟩ := Option.bind_eq_some_iff.mp hf
  refine x_cnV hf (e_stV (Yc := YX30_crown) (ci := 29) (av := [.ref a7, .ref a9]) (st := []) dX3_lay_23 q3316 mX30_crown rfl (k_ok_some b11).1 (k_ok_some b11).2) mX30_crown.2.2.1 mX30_crown.2.2.2.2.1 (Nat.le_of_ble_eq_true rfl) (Nat.le_of_ble_eq_true rfl) (fun q hq => pX30_crown (by omega) hq) (fun q12 hf => ?_)
  refine w_aload_n dX3_lay_26 rfl rfl ?_
  obtain ⟨x13, b14, hf⟩ := Option.bind_eq_some_iff.mp hf
  refine GX3_590 b14 dX3_lay_27 rfl ?_
  refine w_istore_n dX3_lay_30 rfl (by decide) (ls' := [some (.ref this), some (.ref p0), some (.int q2.1), some (.int x13), none, none, none, none, none]) rfl ?_
  exact (pX3_lay_b31 hd N _ _ _ _ _ _ hf).to ⟨rfl, rfl, rfl, rfl, trivial⟩
abbrev cX3_isNear : ByteArray := prog_26_method_41_code
def yX3_isNear : MethodName := ⟨RX3, "isNear", "(J)Z"⟩
def YX3_isNear : eY := (yX3_isNear, cX3_isNear, 2, (Option.some FieldType.boolean), [])
theorem mX3_isNear : e_ms YX3_isNear 1 := ⟨q3374, q428, q3375, by decide, by decide +kernel, (e_sig (by decide +kernel))⟩
theorem dX3_isNear_0 : decode cX3_isNear 0 = .ok (.lload_n 0, 1) := dc_30 (by decide +kernel)
theorem dX3_isNear_1 : decode cX3_isNear 1 = .ok (.ldc2_w 647, 3) := dc_20 (a := 2) (b := 135) (n := 647) (by decide +kernel)
theorem dX3_isNear_4 : decode cX3_isNear 4 = .ok (.lcmp, 1) := dc_148 (by decide +kernel)
theorem dX3_isNear_5 : decode cX3_isNear 5 = .ok (.ifCond .lt 15, 3) := dc_155 (a := 0) (b := 15) (v := 15) (by decide +kernel)
theorem dX3_isNear_8 : decode cX3_isNear 8 = .ok (.lload_n 0, 1) := dc_30 (by decide +kernel)
theorem dX3_isNear_9 : decode cX3_isNear 9 = .ok (.ldc2_w 649, 3) := dc_20 (a := 2) (b := 137) (n := 649) (by decide +kernel)
theorem dX3_isNear_12 : decode cX3_isNear 12 = .ok (.lcmp, 1) := dc_148 (by decide +kernel)
theorem dX3_isNear_13 : decode cX3_isNear 13 = .ok (.ifCond .gt 7, 3) := dc_157 (a := 0) (b := 7) (v := 7) (by decide +kernel)
theorem dX3_isNear_16 : decode cX3_isNear 16 = .ok (.iconst 1, 1) := dc_4 (by decide +kernel)
theorem dX3_isNear_17 : decode cX3_isNear 17 = .ok (.goto 4, 3) := dc_167 (a := 0) (b := 4) (v := 4) (by decide +kernel)
theorem dX3_isNear_20 : decode cX3_isNear 20 = .ok (.iconst 0, 1) := dc_3 (by decide +kernel)
theorem dX3_isNear_21 : decode cX3_isNear 21 = .ok (.ireturn, 1) := dc_172 (by decide +kernel)
def fX3_isNear_b21 (s0 : Int32) (h : eH) : Option (Int32 × eH) :=
  z_r s0 (s0, h)
theorem pX3_isNear_b21 {w : eW} {d : Nat} (hd : 0 ≤ d) {s0 : Int32} {h : eH} {q} (hf : fX3_isNear_b21 s0 h = some q) : wp w d YX3_isNear 21 [none, none] [.int s0] h (e_is (e_rn c_I q)) := by
  unfold fX3_isNear_b21 at hf
  obtain ⟨b1, rfl⟩ := z_r_some hf
  exact w_iret dX3_isNear_21 rfl b1 rfl
def fX3_isNear_b20  (h : eH) : Option (Int32 × eH) :=
  fX3_isNear_b21 (0 : Int32) h
theorem pX3_isNear_b20 {w : eW} {d : Nat} (hd : 0 ≤ d)  {h : eH} {q} (hf : fX3_isNear_b20  h = some q) : wp w d YX3_isNear 20 [none, none] [] h (e_is (e_rn c_I q)) := by
  unfold fX3_isNear_b20 at hf
  refine w_iconst dX3_isNear_20 (v := 0) (by decide) ?_
  exact (pX3_isNear_b21 hd hf).to trivial
def fX3_isNear (p0 : Int64) (h : eH) : Option (Int32 × eH) :=
  if (lg_cmp p0 (-1000000000 : Int64)) < 0 then
    fX3_isNear_b20 h
  else
    if 0 < (lg_cmp p0 (1000000000 : Int64)) then
      fX3_isNear_b20 h
    else
      fX3_isNear_b21 (1 : Int32) h
theorem pX3_isNear {w : eW} {d : Nat} (hd : 0 ≤ d) {p0 : Int64} {h : eH} {q} (hf : fX3_isNear p0 h = some q) : wm w d YX3_isNear [.long p0] h (e_is (e_rn c_I q)) := by
  show wp w d YX3_isNear 0 [some (.long p0), none] [] h _
  unfold fX3_isNear at hf
  refine w_lload_n dX3_isNear_0 rfl rfl ?_
  refine w_ldc2 dX3_isNear_1 q3376 ?_
  refine w_lcmp dX3_isNear_4 ?_
  refine w_if_lt 20 dX3_isNear_5 (by decide) (fun c1 => ?_) (fun c1 => ?_)
  · replace hf := (if_pos (show (lg_cmp p0 (-1000000000 : Int64)) < 0 from c1)).symm.trans hf
    exact (pX3_isNear_b20 hd hf).to trivial
  · replace hf := (if_neg (show ¬ ((lg_cmp p0 (-1000000000 : Int64)) < 0) from c1)).symm.trans hf
    refine w_lload_n dX3_isNear_8 rfl rfl ?_
    refine w_ldc2 dX3_isNear_9 q3377 ?_
    refine w_lcmp dX3_isNear_12 ?_
    refine w_if_gt 20 dX3_isNear_13 (by decide) (fun c2 => ?_) (fun c2 => ?_)
    · replace hf := (if_pos (show 0 < (lg_cmp p0 (1000000000 : Int64)) from c2)).symm.trans hf
      exact (pX3_isNear_b20 hd hf).to trivial
    · replace hf := (if_neg (show ¬ (0 < (lg_cmp p0 (1000000000 : Int64))) from c2)).symm.trans hf
      refine w_iconst dX3_isNear_16 (v := 1) (by decide) ?_
      refine w_goto 21 dX3_isNear_17 (by decide) ?_
      exact (pX3_isNear_b21 hd hf).to trivial
abbrev cX31_add : ByteArray := prog_35_method_3_code
def yX31_add : MethodName := ⟨RX31, "add", "(IIIII)I"⟩
def YX31_add : eY := (yX31_add, cX31_add, 6, (Option.some FieldType.int), [])
theorem mX31_add : e_mv YX31_add RX31 5 := ⟨q3379, q3380, q3381, by decide, by decide +kernel, (e_sig (by decide +kernel))⟩
theorem dX31_add_0 : decode cX31_add 0 = .ok (.aload_n 0, 1) := dc_42 (by decide +kernel)
theorem dX31_add_1 : decode cX31_add 1 = .ok (.getfield 25, 3) := dc_180 (a := 0) (b := 25) (n := 25) (by decide +kernel)
theorem dX31_add_4 : decode cX31_add 4 = .ok (.aload_n 0, 1) := dc_42 (by decide +kernel)
theorem dX31_add_5 : decode cX31_add 5 = .ok (.getfield 69, 3) := dc_180 (a := 0) (b := 69) (n := 69) (by decide +kernel)
theorem dX31_add_8 : decode cX31_add 8 = .ok (.iload_n 1, 1) := dc_27 (by decide +kernel)
theorem dX31_add_9 : decode cX31_add 9 = .ok (.iastore, 1) := dc_79 (by decide +kernel)
theorem dX31_add_10 : decode cX31_add 10 = .ok (.aload_n 0, 1) := dc_42 (by decide +kernel)
theorem dX31_add_11 : decode cX31_add 11 = .ok (.getfield 28, 3) := dc_180 (a := 0) (b := 28) (n := 28) (by decide +kernel)
theorem dX31_add_14 : decode cX31_add 14 = .ok (.aload_n 0, 1) := dc_42 (by decide +kernel)
theorem dX31_add_15 : decode cX31_add 15 = .ok (.getfield 69, 3) := dc_180 (a := 0) (b := 69) (n := 69) (by decide +kernel)
theorem dX31_add_18 : decode cX31_add 18 = .ok (.iload_n 2, 1) := dc_28 (by decide +kernel)
theorem dX31_add_19 : decode cX31_add 19 = .ok (.iastore, 1) := dc_79 (by decide +kernel)
theorem dX31_add_20 : decode cX31_add 20 = .ok (.aload_n 0, 1) := dc_42 (by decide +kernel)
theorem dX31_add_21 : decode cX31_add 21 = .ok (.getfield 31, 3) := dc_180 (a := 0) (b := 31) (n := 31) (by decide +kernel)
theorem dX31_add_24 : decode cX31_add 24 = .ok (.aload_n 0, 1) := dc_42 (by decide +kernel)
theorem dX31_add_25 : decode cX31_add 25 = .ok (.getfield 69, 3) := dc_180 (a := 0) (b := 69) (n := 69) (by decide +kernel)
theorem dX31_add_28 : decode cX31_add 28 = .ok (.iload_n 3, 1) := dc_29 (by decide +kernel)
theorem dX31_add_29 : decode cX31_add 29 = .ok (.iastore, 1) := dc_79 (by decide +kernel)
theorem dX31_add_30 : decode cX31_add 30 = .ok (.aload_n 0, 1) := dc_42 (by decide +kernel)
theorem dX31_add_31 : decode cX31_add 31 = .ok (.getfield 34, 3) := dc_180 (a := 0) (b := 34) (n := 34) (by decide +kernel)
theorem dX31_add_34 : decode cX31_add 34 = .ok (.aload_n 0, 1) := dc_42 (by decide +kernel)
theorem dX31_add_35 : decode cX31_add 35 = .ok (.getfield 69, 3) := dc_180 (a := 0) (b := 69) (n := 69) (by decide +kernel)
theorem dX31_add_38 : decode cX31_add 38 = .ok (.iload 4, 2) := dc_21 (a := 4) (by decide +kernel)
theorem dX31_add_40 : decode cX31_add 40 = .ok (.iastore, 1) := dc_79 (by decide +kernel)
theorem dX31_add_41 : decode cX31_add 41 = .ok (.aload_n 0, 1) := dc_42 (by decide +kernel)
theorem dX31_add_42 : decode cX31_add 42 = .ok (.getfield 37, 3) := dc_180 (a := 0) (b := 37) (n := 37) (by decide +kernel)
theorem dX31_add_45 : decode cX31_add 45 = .ok (.aload_n 0, 1) := dc_42 (by decide +kernel)
theorem dX31_add_46 : decode cX31_add 46 = .ok (.getfield 69, 3) := dc_180 (a := 0) (b := 69) (n := 69) (by decide +kernel)
theorem dX31_add_49 : decode cX31_add 49 = .ok (.iload 5, 2) := dc_21 (a := 5) (by decide +kernel)
theorem dX31_add_51 : decode cX31_add 51 = .ok (.iastore, 1) := dc_79 (by decide +kernel)
theorem dX31_add_52 : decode cX31_add 52 = .ok (.aload_n 0, 1) := dc_42 (by decide +kernel)
theorem dX31_add_53 : decode cX31_add 53 = .ok (.dup, 1) := dc_89 (by decide +kernel)
theorem dX31_add_54 : decode cX31_add 54 = .ok (.getfield 69, 3) := dc_180 (a := 0) (b := 69) (n := 69) (by decide +kernel)
theorem dX31_add_57 : decode cX31_add 57 = .ok (.iconst 1, 1) := dc_4 (by decide +kernel)
theorem dX31_add_58 : decode cX31_add 58 = .ok (.iadd, 1) := dc_96 (by decide +kernel)
theorem dX31_add_59 : decode cX31_add 59 = .ok (.dup_x1, 1) := dc_90 (by decide +kernel)
theorem dX31_add_60 : decode cX31_add 60 = .ok (.putfield 69, 3) := dc_181 (a := 0) (b := 69) (n := 69) (by decide +kernel)
theorem dX31_add_63 : decode cX31_add 63 = .ok (.ireturn, 1) := dc_172 (by decide +kernel)
theorem GX31_25 {w : eW} {d : Nat} {Y : eY} {pc : Nat} {ls : eL} {st : List Value} {h : eH} {Q : eO → eH → Prop} {a : Nat} {x : Nat} (hf : g_A 30 h a 3 = some x) (hd : decode Y.2.1 pc = .ok (.getfield 25, 3)) (hY : Y.1.cls = RX31) (kk : wp w d Y (pc + 3) ls (.ref x :: st) h Q) : wp w d Y pc ls (.ref a :: st) h Q := x_gA (ci := 30) (k := 3) hf hd rfl (by decide) (by rw [hY]; exact q1719) kk
theorem GX31_28 {w : eW} {d : Nat} {Y : eY} {pc : Nat} {ls : eL} {st : List Value} {h : eH} {Q : eO → eH → Prop} {a : Nat} {x : Nat} (hf : g_A 30 h a 4 = some x) (hd : decode Y.2.1 pc = .ok (.getfield 28, 3)) (hY : Y.1.cls = RX31) (kk : wp w d Y (pc + 3) ls (.ref x :: st) h Q) : wp w d Y pc ls (.ref a :: st) h Q := x_gA (ci := 30) (k := 4) hf hd rfl (by decide) (by rw [hY]; exact q1720) kk
theorem GX31_31 {w : eW} {d : Nat} {Y : eY} {pc : Nat} {ls : eL} {st : List Value} {h : eH} {Q : eO → eH → Prop} {a : Nat} {x : Nat} (hf : g_A 30 h a 5 = some x) (hd : decode Y.2.1 pc = .ok (.getfield 31, 3)) (hY : Y.1.cls = RX31) (kk : wp w d Y (pc + 3) ls (.ref x :: st) h Q) : wp w d Y pc ls (.ref a :: st) h Q := x_gA (ci := 30) (k := 5) hf hd rfl (by decide) (by rw [hY]; exact q1721) kk
theorem GX31_34 {w : eW} {d : Nat} {Y : eY} {pc : Nat} {ls : eL} {st : List Value} {h : eH} {Q : eO → eH → Prop} {a : Nat} {x : Nat} (hf : g_A 30 h a 6 = some x) (hd : decode Y.2.1 pc = .ok (.getfield 34, 3)) (hY : Y.1.cls = RX31) (kk : wp w d Y (pc + 3) ls (.ref x :: st) h Q) : wp w d Y pc ls (.ref a :: st) h Q := x_gA (ci := 30) (k := 6) hf hd rfl (by decide) (by rw [hY]; exact q1722) kk
theorem GX31_37 {w : eW} {d : Nat} {Y : eY} {pc : Nat} {ls : eL} {st : List Value} {h : eH} {Q : eO → eH → Prop} {a : Nat} {x : Nat} (hf : g_A 30 h a 7 = some x) (hd : decode Y.2.1 pc = .ok (.getfield 37, 3)) (hY : Y.1.cls = RX31) (kk : wp w d Y (pc + 3) ls (.ref x :: st) h Q) : wp w d Y pc ls (.ref a :: st) h Q := x_gA (ci := 30) (k := 7) hf hd rfl (by decide) (by rw [hY]; exact q1723) kk
theorem GX31_69 {w : eW} {d : Nat} {Y : eY} {pc : Nat} {ls : eL} {st : List Value} {h : eH} {Q : eO → eH → Prop} {a : Nat} {x : Int32} (hf : g_I 30 h a 8 = some x) (hd : decode Y.2.1 pc = .ok (.getfield 69, 3)) (hY : Y.1.cls = RX31) (kk : wp w d Y (pc + 3) ls (.int x :: st) h Q) : wp w d Y pc ls (.ref a :: st) h Q := x_gI (ci := 30) (k := 8) hf hd rfl (by decide) (by rw [hY]; exact q1724) kk
def fX31_add (this : Nat) (p0 : Int32) (p1 : Int32) (p2 : Int32) (p3 : Int32) (p4 : Int32) (h : eH) : Option (Int32 × eH) :=
  (g_A 30 h this 3).bind fun a1 =>
  (g_I 30 h this 8).bind fun x3 =>
  (q_V 100 h a1 x3 (.int p0)).bind fun h5 =>
  (g_A 30 h5 this 4).bind fun a7 =>
  (g_I 30 h5 this 8).bind fun x9 =>
  (q_V 100 h5 a7 x9 (.int p1)).bind fun h11 =>
  (g_A 30 h11 this 5).bind fun a13 =>
  (g_I 30 h11 this 8).bind fun x15 =>
  (q_V 100 h11 a13 x15 (.int p2)).bind fun h17 =>
  (g_A 30 h17 this 6).bind fun a19 =>
  (g_I 30 h17 this 8).bind fun x21 =>
  (q_V 100 h17 a19 x21 (.int p3)).bind fun h23 =>
  (g_A 30 h23 this 7).bind fun a25 =>
  (g_I 30 h23 this 8).bind fun x27 =>
  (q_V 100 h23 a25 x27 (.int p4)).bind fun h29 =>
  (g_I 30 h29 this 8).bind fun x31 =>
  (p_V 30 h29 this 8 (.int (x31 + (1 : Int32)))).bind fun h33 =>
  some ((x31 + (1 : Int32)), h33)
theorem pX31_add {w : eW} {d : Nat} (hd : 0 ≤ d) {this : Nat} {p0 : Int32} {p1 : Int32} {p2 : Int32} {p3 : Int32} {p4 : Int32} {h : eH} {q} (hf : fX31_add this p0 p1 p2 p3 p4 h = some q) : wm w d YX31_add [.ref this, .int p0, .int p1, .int p2, .int p3, .int p4] h (e_is (e_rn c_I q)) := by
  show wp w d YX31_add 0 [some (.ref this), some (.int p0), some (.int p1), some (.int p2), some (.int p3), some (.int p4)] [] h _
  unfold fX31_add at hf
  refine w_aload_n dX31_add_0 rfl rfl ?_
  obtain ⟨a1, b2, hf⟩ := Option.bind_eq_some_iff.mp hf
  refine GX31_25 b2 dX31_add_1 rfl ?_
  refine w_aload_n dX31_add_4 rfl rfl ?_
  obtain ⟨x3, b4, hf⟩ := Option.bind_eq_some_iff.mp hf
  refine GX31_69 b4 dX31_add_5 rfl ?_
  refine w_iload_n dX31_add_8 rfl rfl ?_
  obtain ⟨h5, b6, hf⟩ := Option.bind_eq_some_iff.mp hf
  refine x_qI b6 dX31_add_9 ?_
  refine w_aload_n dX31_add_10 rfl rfl ?_
  obtain ⟨a7, b8, hf⟩ := Option.bind_eq_some_iff.mp hf
  refine GX31_28 b8 dX31_add_11 rfl ?_
  refine w_aload_n dX31_add_14 rfl rfl ?_
  obtain ⟨x9, b10, hf⟩ := Option.bind_eq_some_iff.mp hf
  refine GX31_69 b10 dX31_add_15 rfl ?_
  refine w_iload_n dX31_add_18 rfl rfl ?_
  obtain ⟨h11, b12, hf⟩ := Option.bind_eq_some_iff.mp hf
  refine x_qI b12 dX31_add_19 ?_
  refine w_aload_n dX31_add_20 rfl rfl ?_
  obtain ⟨a13, b14, hf⟩ := Option.bind_eq_some_iff.mp hf
  refine GX31_31 b14 dX31_add_21 rfl ?_
  refine w_aload_n dX31_add_24 rfl rfl ?_
  obtain ⟨x15, b16, hf⟩ := Option.bind_eq_some_iff.mp hf
  refine GX31_69 b16 dX31_add_25 rfl ?_
  refine w_iload_n dX31_add_28 rfl rfl ?_
  obtain ⟨h17, b18, hf⟩ := Option.bind_eq_some_iff.mp hf
  refine x_qI b18 dX31_add_29 ?_
  refine w_aload_n dX31_add_30 rfl rfl ?_
  obtain ⟨a19, b20, hf⟩ := Option.bind_eq_some_iff.mp hf
  refine GX31_34 b20 dX31_add_31 rfl ?_
  refine w_aload_n dX31_add_34 rfl rfl ?_
  obtain ⟨x21, b22, hf⟩ := Option.bind_eq_some_iff.mp hf
  refine GX31_69 b22 dX31_add_35 rfl ?_
  refine w_iload dX31_add_38 rfl ?_
  obtain ⟨h23, b24, hf⟩ := Option.bind_eq_some_iff.mp hf
  refine x_qI b24 dX31_add_40 ?_
  refine w_aload_n dX31_add_41 rfl rfl ?_
  obtain ⟨a25, b26, hf⟩ := Option.bind_eq_some_iff.mp hf
  refine GX31_37 b26 dX31_add_42 rfl ?_
  refine w_aload_n dX31_add_45 rfl rfl ?_
  obtain ⟨x27, b28, hf⟩ := Option.bind_eq_some_iff.mp hf
  refine GX31_69 b28 dX31_add_46 rfl ?_
  refine w_iload dX31_add_49 rfl ?_
  obtain ⟨h29, b30, hf⟩ := Option.bind_eq_some_iff.mp hf
  refine x_qI b30 dX31_add_51 ?_
  refine w_aload_n dX31_add_52 rfl rfl ?_
  refine w_dup dX31_add_53 rfl ?_
  obtain ⟨x31, b32, hf⟩ := Option.bind_eq_some_iff.mp hf
  refine GX31_69 b32 dX31_add_54 rfl ?_
  refine w_iconst dX31_add_57 (v := 1) (by decide) ?_
  refine w_iadd dX31_add_58 ?_
  refine w_dup_x1 dX31_add_59 rfl rfl ?_
  obtain ⟨h33, b34, hf⟩ := Option.bind_eq_some_iff.mp hf
  refine SX31_69 b34 dX31_add_60 rfl ?_
  cases hf
  exact w_iret dX31_add_63 rfl rfl rfl
abbrev cX3_hand : ByteArray := prog_26_method_42_code
def yX3_hand : MethodName := ⟨RX3, "hand", "()V"⟩
def YX3_hand : eY := (yX3_hand, cX3_hand, 14, none, [])
theorem mX3_hand : e_mv YX3_hand RX3 0 := ⟨q3371, qs134, q3372, by decide, by decide +kernel, (e_sig (by decide +kernel))⟩
theorem dX3_hand_0 : decode cX3_hand 0 = .ok (.iconst 0, 1) := dc_3 (by decide +kernel)
theorem dX3_hand_1 : decode cX3_hand 1 = .ok (.istore_n 1, 1) := dc_60 (by decide +kernel)
theorem dX3_hand_2 : decode cX3_hand 2 = .ok (.iload_n 1, 1) := dc_27 (by decide +kernel)
theorem dX3_hand_3 : decode cX3_hand 3 = .ok (.aload_n 0, 1) := dc_42 (by decide +kernel)
theorem dX3_hand_4 : decode cX3_hand 4 = .ok (.getfield 80, 3) := dc_180 (a := 0) (b := 80) (n := 80) (by decide +kernel)
theorem dX3_hand_7 : decode cX3_hand 7 = .ok (.getfield 615, 3) := dc_180 (a := 2) (b := 103) (n := 615) (by decide +kernel)
theorem dX3_hand_10 : decode cX3_hand 10 = .ok (.if_icmp .ge 221, 3) := dc_162 (a := 0) (b := 221) (v := 221) (by decide +kernel)
theorem dX3_hand_13 : decode cX3_hand 13 = .ok (.aload_n 0, 1) := dc_42 (by decide +kernel)
theorem dX3_hand_14 : decode cX3_hand 14 = .ok (.getfield 80, 3) := dc_180 (a := 0) (b := 80) (n := 80) (by decide +kernel)
theorem dX3_hand_17 : decode cX3_hand 17 = .ok (.getfield 651, 3) := dc_180 (a := 2) (b := 139) (n := 651) (by decide +kernel)
theorem dX3_hand_20 : decode cX3_hand 20 = .ok (.astore_n 2, 1) := dc_77 (by decide +kernel)
theorem dX3_hand_21 : decode cX3_hand 21 = .ok (.bipush 6, 2) := dc_16 (a := 6) (v := 6) (by decide +kernel)
theorem dX3_hand_23 : decode cX3_hand 23 = .ok (.iload_n 1, 1) := dc_27 (by decide +kernel)
theorem dX3_hand_24 : decode cX3_hand 24 = .ok (.imul, 1) := dc_104 (by decide +kernel)
theorem dX3_hand_25 : decode cX3_hand 25 = .ok (.istore_n 3, 1) := dc_62 (by decide +kernel)
theorem dX3_hand_26 : decode cX3_hand 26 = .ok (.aload_n 2, 1) := dc_44 (by decide +kernel)
theorem dX3_hand_27 : decode cX3_hand 27 = .ok (.iload_n 3, 1) := dc_29 (by decide +kernel)
theorem dX3_hand_28 : decode cX3_hand 28 = .ok (.laload, 1) := dc_47 (by decide +kernel)
theorem dX3_hand_29 : decode cX3_hand 29 = .ok (.l2i, 1) := dc_136 (by decide +kernel)
theorem dX3_hand_30 : decode cX3_hand 30 = .ok (.istore 4, 2) := dc_54 (a := 4) (by decide +kernel)
theorem dX3_hand_32 : decode cX3_hand 32 = .ok (.aload_n 2, 1) := dc_44 (by decide +kernel)
theorem dX3_hand_33 : decode cX3_hand 33 = .ok (.iload_n 3, 1) := dc_29 (by decide +kernel)
theorem dX3_hand_34 : decode cX3_hand 34 = .ok (.iconst 1, 1) := dc_4 (by decide +kernel)
theorem dX3_hand_35 : decode cX3_hand 35 = .ok (.iadd, 1) := dc_96 (by decide +kernel)
theorem dX3_hand_36 : decode cX3_hand 36 = .ok (.laload, 1) := dc_47 (by decide +kernel)
theorem dX3_hand_37 : decode cX3_hand 37 = .ok (.lstore 5, 2) := dc_55 (a := 5) (by decide +kernel)
theorem dX3_hand_39 : decode cX3_hand 39 = .ok (.aload_n 2, 1) := dc_44 (by decide +kernel)
theorem dX3_hand_40 : decode cX3_hand 40 = .ok (.iload_n 3, 1) := dc_29 (by decide +kernel)
theorem dX3_hand_41 : decode cX3_hand 41 = .ok (.iconst 2, 1) := dc_5 (by decide +kernel)
theorem dX3_hand_42 : decode cX3_hand 42 = .ok (.iadd, 1) := dc_96 (by decide +kernel)
theorem dX3_hand_43 : decode cX3_hand 43 = .ok (.laload, 1) := dc_47 (by decide +kernel)
theorem dX3_hand_44 : decode cX3_hand 44 = .ok (.lstore 7, 2) := dc_55 (a := 7) (by decide +kernel)
theorem dX3_hand_46 : decode cX3_hand 46 = .ok (.iload 4, 2) := dc_21 (a := 4) (by decide +kernel)
theorem dX3_hand_48 : decode cX3_hand 48 = .ok (.iconst (-1), 1) := dc_2 (by decide +kernel)
theorem dX3_hand_49 : decode cX3_hand 49 = .ok (.if_icmp .ne 105, 3) := dc_160 (a := 0) (b := 105) (v := 105) (by decide +kernel)
theorem dX3_hand_52 : decode cX3_hand 52 = .ok (.lload 7, 2) := dc_22 (a := 7) (by decide +kernel)
theorem dX3_hand_54 : decode cX3_hand 54 = .ok (.aload_n 2, 1) := dc_44 (by decide +kernel)
theorem dX3_hand_55 : decode cX3_hand 55 = .ok (.iload_n 3, 1) := dc_29 (by decide +kernel)
theorem dX3_hand_56 : decode cX3_hand 56 = .ok (.iconst 5, 1) := dc_8 (by decide +kernel)
theorem dX3_hand_57 : decode cX3_hand 57 = .ok (.iadd, 1) := dc_96 (by decide +kernel)
theorem dX3_hand_58 : decode cX3_hand 58 = .ok (.laload, 1) := dc_47 (by decide +kernel)
theorem dX3_hand_59 : decode cX3_hand 59 = .ok (.ladd, 1) := dc_97 (by decide +kernel)
theorem dX3_hand_60 : decode cX3_hand 60 = .ok (.lstore 9, 2) := dc_55 (a := 9) (by decide +kernel)
theorem dX3_hand_62 : decode cX3_hand 62 = .ok (.aload_n 2, 1) := dc_44 (by decide +kernel)
theorem dX3_hand_63 : decode cX3_hand 63 = .ok (.iload_n 3, 1) := dc_29 (by decide +kernel)
theorem dX3_hand_64 : decode cX3_hand 64 = .ok (.iconst 4, 1) := dc_7 (by decide +kernel)
theorem dX3_hand_65 : decode cX3_hand 65 = .ok (.iadd, 1) := dc_96 (by decide +kernel)
theorem dX3_hand_66 : decode cX3_hand 66 = .ok (.laload, 1) := dc_47 (by decide +kernel)
theorem dX3_hand_67 : decode cX3_hand 67 = .ok (.aload_n 2, 1) := dc_44 (by decide +kernel)
theorem dX3_hand_68 : decode cX3_hand 68 = .ok (.iload_n 3, 1) := dc_29 (by decide +kernel)
theorem dX3_hand_69 : decode cX3_hand 69 = .ok (.iconst 5, 1) := dc_8 (by decide +kernel)
theorem dX3_hand_70 : decode cX3_hand 70 = .ok (.iadd, 1) := dc_96 (by decide +kernel)
theorem dX3_hand_71 : decode cX3_hand 71 = .ok (.laload, 1) := dc_47 (by decide +kernel)
theorem dX3_hand_72 : decode cX3_hand 72 = .ok (.ladd, 1) := dc_97 (by decide +kernel)
theorem dX3_hand_73 : decode cX3_hand 73 = .ok (.lstore 11, 2) := dc_55 (a := 11) (by decide +kernel)
theorem dX3_hand_75 : decode cX3_hand 75 = .ok (.aload_n 0, 1) := dc_42 (by decide +kernel)
theorem dX3_hand_76 : decode cX3_hand 76 = .ok (.getfield 14, 3) := dc_180 (a := 0) (b := 14) (n := 14) (by decide +kernel)
theorem dX3_hand_79 : decode cX3_hand 79 = .ok (.lload 5, 2) := dc_22 (a := 5) (by decide +kernel)
theorem dX3_hand_81 : decode cX3_hand 81 = .ok (.invokestatic 655, 3) := dc_184 (a := 2) (b := 143) (n := 655) (by decide +kernel)
theorem dX3_hand_84 : decode cX3_hand 84 = .ok (.ifCond .eq 36, 3) := dc_153 (a := 0) (b := 36) (v := 36) (by decide +kernel)
theorem dX3_hand_87 : decode cX3_hand 87 = .ok (.lload 9, 2) := dc_22 (a := 9) (by decide +kernel)
theorem dX3_hand_89 : decode cX3_hand 89 = .ok (.invokestatic 655, 3) := dc_184 (a := 2) (b := 143) (n := 655) (by decide +kernel)
theorem dX3_hand_92 : decode cX3_hand 92 = .ok (.ifCond .eq 28, 3) := dc_153 (a := 0) (b := 28) (v := 28) (by decide +kernel)
theorem dX3_hand_95 : decode cX3_hand 95 = .ok (.aload_n 2, 1) := dc_44 (by decide +kernel)
theorem dX3_hand_96 : decode cX3_hand 96 = .ok (.iload_n 3, 1) := dc_29 (by decide +kernel)
theorem dX3_hand_97 : decode cX3_hand 97 = .ok (.iconst 3, 1) := dc_6 (by decide +kernel)
theorem dX3_hand_98 : decode cX3_hand 98 = .ok (.iadd, 1) := dc_96 (by decide +kernel)
theorem dX3_hand_99 : decode cX3_hand 99 = .ok (.laload, 1) := dc_47 (by decide +kernel)
theorem dX3_hand_100 : decode cX3_hand 100 = .ok (.ldc2_w 649, 3) := dc_20 (a := 2) (b := 137) (n := 649) (by decide +kernel)
theorem dX3_hand_103 : decode cX3_hand 103 = .ok (.lcmp, 1) := dc_148 (by decide +kernel)
theorem dX3_hand_104 : decode cX3_hand 104 = .ok (.ifCond .gt 16, 3) := dc_157 (a := 0) (b := 16) (v := 16) (by decide +kernel)
theorem dX3_hand_107 : decode cX3_hand 107 = .ok (.lload 11, 2) := dc_22 (a := 11) (by decide +kernel)
theorem dX3_hand_109 : decode cX3_hand 109 = .ok (.ldc2_w 649, 3) := dc_20 (a := 2) (b := 137) (n := 649) (by decide +kernel)
theorem dX3_hand_112 : decode cX3_hand 112 = .ok (.lcmp, 1) := dc_148 (by decide +kernel)
theorem dX3_hand_113 : decode cX3_hand 113 = .ok (.ifCond .gt 7, 3) := dc_157 (a := 0) (b := 7) (v := 7) (by decide +kernel)
theorem dX3_hand_116 : decode cX3_hand 116 = .ok (.iconst 1, 1) := dc_4 (by decide +kernel)
theorem dX3_hand_117 : decode cX3_hand 117 = .ok (.goto 4, 3) := dc_167 (a := 0) (b := 4) (v := 4) (by decide +kernel)
theorem dX3_hand_120 : decode cX3_hand 120 = .ok (.iconst 0, 1) := dc_3 (by decide +kernel)
theorem dX3_hand_121 : decode cX3_hand 121 = .ok (.bipush 16, 2) := dc_16 (a := 16) (v := 16) (by decide +kernel)
theorem dX3_hand_123 : decode cX3_hand 123 = .ok (.invokevirtual 289, 3) := dc_182 (a := 1) (b := 33) (n := 289) (by decide +kernel)
theorem dX3_hand_126 : decode cX3_hand 126 = .ok (.aload_n 0, 1) := dc_42 (by decide +kernel)
theorem dX3_hand_127 : decode cX3_hand 127 = .ok (.getfield 119, 3) := dc_180 (a := 0) (b := 119) (n := 119) (by decide +kernel)
theorem dX3_hand_130 : decode cX3_hand 130 = .ok (.iconst (-1), 1) := dc_2 (by decide +kernel)
theorem dX3_hand_131 : decode cX3_hand 131 = .ok (.aload_n 2, 1) := dc_44 (by decide +kernel)
theorem dX3_hand_132 : decode cX3_hand 132 = .ok (.iload_n 3, 1) := dc_29 (by decide +kernel)
theorem dX3_hand_133 : decode cX3_hand 133 = .ok (.iconst 3, 1) := dc_6 (by decide +kernel)
theorem dX3_hand_134 : decode cX3_hand 134 = .ok (.iadd, 1) := dc_96 (by decide +kernel)
theorem dX3_hand_135 : decode cX3_hand 135 = .ok (.laload, 1) := dc_47 (by decide +kernel)
theorem dX3_hand_136 : decode cX3_hand 136 = .ok (.l2i, 1) := dc_136 (by decide +kernel)
theorem dX3_hand_137 : decode cX3_hand 137 = .ok (.lload 5, 2) := dc_22 (a := 5) (by decide +kernel)
theorem dX3_hand_139 : decode cX3_hand 139 = .ok (.l2i, 1) := dc_136 (by decide +kernel)
theorem dX3_hand_140 : decode cX3_hand 140 = .ok (.lload 9, 2) := dc_22 (a := 9) (by decide +kernel)
theorem dX3_hand_142 : decode cX3_hand 142 = .ok (.l2i, 1) := dc_136 (by decide +kernel)
theorem dX3_hand_143 : decode cX3_hand 143 = .ok (.lload 11, 2) := dc_22 (a := 11) (by decide +kernel)
theorem dX3_hand_145 : decode cX3_hand 145 = .ok (.l2i, 1) := dc_136 (by decide +kernel)
theorem dX3_hand_146 : decode cX3_hand 146 = .ok (.invokevirtual 659, 3) := dc_182 (a := 2) (b := 147) (n := 659) (by decide +kernel)
theorem dX3_hand_149 : decode cX3_hand 149 = .ok (.istore 13, 2) := dc_54 (a := 13) (by decide +kernel)
theorem dX3_hand_151 : decode cX3_hand 151 = .ok (.goto 74, 3) := dc_167 (a := 0) (b := 74) (v := 74) (by decide +kernel)
theorem dX3_hand_154 : decode cX3_hand 154 = .ok (.aload_n 0, 1) := dc_42 (by decide +kernel)
theorem dX3_hand_155 : decode cX3_hand 155 = .ok (.getfield 14, 3) := dc_180 (a := 0) (b := 14) (n := 14) (by decide +kernel)
theorem dX3_hand_158 : decode cX3_hand 158 = .ok (.lload 5, 2) := dc_22 (a := 5) (by decide +kernel)
theorem dX3_hand_160 : decode cX3_hand 160 = .ok (.invokestatic 655, 3) := dc_184 (a := 2) (b := 143) (n := 655) (by decide +kernel)
theorem dX3_hand_163 : decode cX3_hand 163 = .ok (.ifCond .eq 29, 3) := dc_153 (a := 0) (b := 29) (v := 29) (by decide +kernel)
theorem dX3_hand_166 : decode cX3_hand 166 = .ok (.lload 7, 2) := dc_22 (a := 7) (by decide +kernel)
theorem dX3_hand_168 : decode cX3_hand 168 = .ok (.invokestatic 655, 3) := dc_184 (a := 2) (b := 143) (n := 655) (by decide +kernel)
theorem dX3_hand_171 : decode cX3_hand 171 = .ok (.ifCond .eq 21, 3) := dc_153 (a := 0) (b := 21) (v := 21) (by decide +kernel)
theorem dX3_hand_174 : decode cX3_hand 174 = .ok (.lload 5, 2) := dc_22 (a := 5) (by decide +kernel)
theorem dX3_hand_176 : decode cX3_hand 176 = .ok (.aload_n 2, 1) := dc_44 (by decide +kernel)
theorem dX3_hand_177 : decode cX3_hand 177 = .ok (.iload_n 3, 1) := dc_29 (by decide +kernel)
theorem dX3_hand_178 : decode cX3_hand 178 = .ok (.iconst 3, 1) := dc_6 (by decide +kernel)
theorem dX3_hand_179 : decode cX3_hand 179 = .ok (.iadd, 1) := dc_96 (by decide +kernel)
theorem dX3_hand_180 : decode cX3_hand 180 = .ok (.laload, 1) := dc_47 (by decide +kernel)
theorem dX3_hand_181 : decode cX3_hand 181 = .ok (.ladd, 1) := dc_97 (by decide +kernel)
theorem dX3_hand_182 : decode cX3_hand 182 = .ok (.invokestatic 655, 3) := dc_184 (a := 2) (b := 143) (n := 655) (by decide +kernel)
theorem dX3_hand_185 : decode cX3_hand 185 = .ok (.ifCond .eq 7, 3) := dc_153 (a := 0) (b := 7) (v := 7) (by decide +kernel)
theorem dX3_hand_188 : decode cX3_hand 188 = .ok (.iconst 1, 1) := dc_4 (by decide +kernel)
theorem dX3_hand_189 : decode cX3_hand 189 = .ok (.goto 4, 3) := dc_167 (a := 0) (b := 4) (v := 4) (by decide +kernel)
theorem dX3_hand_192 : decode cX3_hand 192 = .ok (.iconst 0, 1) := dc_3 (by decide +kernel)
theorem dX3_hand_193 : decode cX3_hand 193 = .ok (.bipush 16, 2) := dc_16 (a := 16) (v := 16) (by decide +kernel)
theorem dX3_hand_195 : decode cX3_hand 195 = .ok (.invokevirtual 289, 3) := dc_182 (a := 1) (b := 33) (n := 289) (by decide +kernel)
theorem dX3_hand_198 : decode cX3_hand 198 = .ok (.aload_n 0, 1) := dc_42 (by decide +kernel)
theorem dX3_hand_199 : decode cX3_hand 199 = .ok (.getfield 119, 3) := dc_180 (a := 0) (b := 119) (n := 119) (by decide +kernel)
theorem dX3_hand_202 : decode cX3_hand 202 = .ok (.iload 4, 2) := dc_21 (a := 4) (by decide +kernel)
theorem dX3_hand_204 : decode cX3_hand 204 = .ok (.bipush 8, 2) := dc_16 (a := 8) (v := 8) (by decide +kernel)
theorem dX3_hand_206 : decode cX3_hand 206 = .ok (.ishr, 1) := dc_122 (by decide +kernel)
theorem dX3_hand_207 : decode cX3_hand 207 = .ok (.iload 4, 2) := dc_21 (a := 4) (by decide +kernel)
theorem dX3_hand_209 : decode cX3_hand 209 = .ok (.sipush 255, 3) := dc_17 (a := 0) (b := 255) (v := 255) (by decide +kernel)
theorem dX3_hand_212 : decode cX3_hand 212 = .ok (.iand, 1) := dc_126 (by decide +kernel)
theorem dX3_hand_213 : decode cX3_hand 213 = .ok (.lload 5, 2) := dc_22 (a := 5) (by decide +kernel)
theorem dX3_hand_215 : decode cX3_hand 215 = .ok (.l2i, 1) := dc_136 (by decide +kernel)
theorem dX3_hand_216 : decode cX3_hand 216 = .ok (.lload 7, 2) := dc_22 (a := 7) (by decide +kernel)
theorem dX3_hand_218 : decode cX3_hand 218 = .ok (.l2i, 1) := dc_136 (by decide +kernel)
theorem dX3_hand_219 : decode cX3_hand 219 = .ok (.iconst 0, 1) := dc_3 (by decide +kernel)
theorem dX3_hand_220 : decode cX3_hand 220 = .ok (.invokevirtual 659, 3) := dc_182 (a := 2) (b := 147) (n := 659) (by decide +kernel)
theorem dX3_hand_223 : decode cX3_hand 223 = .ok (.istore 9, 2) := dc_54 (a := 9) (by decide +kernel)
theorem dX3_hand_225 : decode cX3_hand 225 = .ok (.iinc 1 1, 3) := dc_132 (a := 1) (b := 1) (v := 1) (by decide +kernel)
theorem dX3_hand_228 : decode cX3_hand 228 = .ok (.goto (-226), 3) := dc_167 (a := 255) (b := 30) (v := -226) (by decide +kernel)
theorem dX3_hand_231 : decode cX3_hand 231 = .ok (.return_, 1) := dc_177 (by decide +kernel)
theorem GX3_615 {w : eW} {d : Nat} {Y : eY} {pc : Nat} {ls : eL} {st : List Value} {h : eH} {Q : eO → eH → Prop} {a : Nat} {x : Int32} (hf : g_I 19 h a 3 = some x) (hd : decode Y.2.1 pc = .ok (.getfield 615, 3)) (hY : Y.1.cls = RX3) (kk : wp w d Y (pc + 3) ls (.int x :: st) h Q) : wp w d Y pc ls (.ref a :: st) h Q := x_gIN (ci := 19) (k := 3) hf hd rfl (by decide) (by rw [hY]; exact q1206) kk
theorem GX3_651 {w : eW} {d : Nat} {Y : eY} {pc : Nat} {ls : eL} {st : List Value} {h : eH} {Q : eO → eH → Prop} {a : Nat} {x : Nat} (hf : g_A 19 h a 2 = some x) (hd : decode Y.2.1 pc = .ok (.getfield 651, 3)) (hY : Y.1.cls = RX3) (kk : wp w d Y (pc + 3) ls (.ref x :: st) h Q) : wp w d Y pc ls (.ref a :: st) h Q := x_gAN (ci := 19) (k := 2) hf hd rfl (by decide) (by rw [hY]; exact q1204) kk
def fX3_hand_b225 (N : Nat) (k2 : Nat → Int32 → eH → Option ((Unit ⊕ Nat) × eH)) (l0 : Nat) (l1 : Int32) (h : eH) : Option ((Unit ⊕ Nat) × eH) :=
  k2 l0 (l1 + (1 : Int32)) h
theorem pX3_hand_b225 {w : eW} {d : Nat} (hd : 8 ≤ d + 1) {N : Nat} {k2 : Nat → Int32 → eH → Option ((Unit ⊕ Nat) × eH)} (hk2 : ∀ l0 l1 h q, k2 l0 l1 h = some q → wp w (d + 1) YX3_hand 2 [some (.ref l0), some (.int l1), none, none, none, none, none, none, none, none, none, none, none, none] [] h (e_is (e_rt c_V q))) {l0 : Nat} {l1 : Int32} {h : eH} {q} (hf : fX3_hand_b225 N k2 l0 l1 h = some q) : wp w (d + 1) YX3_hand 225 [some (.ref l0), some (.int l1), none, none, none, none, none, none, none, none, none, none, none, none] [] h (e_is (e_rt c_V q)) := by
  unfold fX3_hand_b225 at hf
  refine w_iinc dX3_hand_225 (v := (l1 + (1 : Int32))) rfl rfl (by decide) (ls' := [some (.ref l0), some (.int (l1 + (1 : Int32))), none, none, none, none, none, none, none, none, none, none, none, none]) rfl ?_
  refine w_goto 2 dX3_hand_228 (by decide) ?_
  exact (hk2 _ _ _ _ hf).to ⟨rfl, rfl, trivial⟩
def fX3_hand_b121 (N : Nat) (k2 : Nat → Int32 → eH → Option ((Unit ⊕ Nat) × eH)) (l0 : Nat) (l1 : Int32) (l2 : Nat) (l3 : Int32) (l5 : Int64) (l9 : Int64) (l11 : Int64) (s0 : Nat) (s1 : Int32) (h : eH) : Option ((Unit ⊕ Nat) × eH) :=
  (k_ok 3 h s0).bind fun _ =>
  t_B (fX4_want s0 s1 (16 : Int32) h) fun x2 h3 =>
  (g_A 2 h3 l0 15).bind fun a4 =>
  (r_J h3 l2 (l3 + (3 : Int32))).bind fun x6 =>
  (k_ok 30 h3 a4).bind fun _ =>
  (fX31_add a4 (-1 : Int32) (x6).toInt32 (l5).toInt32 (l9).toInt32 (l11).toInt32 h3).bind fun q9 =>
  fX3_hand_b225 N k2 l0 l1 q9.2
theorem pX3_hand_b121 {w : eW} {d : Nat} (hd : 8 ≤ d + 1) {N : Nat} {k2 : Nat → Int32 → eH → Option ((Unit ⊕ Nat) × eH)} (hk2 : ∀ l0 l1 h q, k2 l0 l1 h = some q → wp w (d + 1) YX3_hand 2 [some (.ref l0), some (.int l1), none, none, none, none, none, none, none, none, none, none, none, none] [] h (e_is (e_rt c_V q))) {l0 : Nat} {l1 : Int32} {l2 : Nat} {l3 : Int32} {l5 : Int64} {l9 : Int64} {l11 : Int64} {s0 : Nat} {s1 : Int32} {h : eH} {q} (hf : fX3_hand_b121 N k2 l0 l1 l2 l3 l5 l9 l11 s0 s1 h = some q) : wp w (d + 1) YX3_hand 121 [some (.ref l0), some (.int l1), some (.ref l2), some (.int l3), none, some (.long l5), none, none, none, some (.long l9), none, some (.long l11), none, none] [.int s1, .ref s0] h (e_is (e_rt c_V q)) := by
  unfold fX3_hand_b121 at hf
  refine w_bipush dX3_hand_121 (v := 16) (by decide) ?_
  obtain ⟨_, b1, hf⟩ := Option.bind_eq_some_iff.mp hf
  refine x_ctV hf (e_stV (Yc := YX4_want) (ci := 3) (av := [.int s1, .int (16 : Int32)]) (st := []) dX3_hand_123 q2846 mX4_want rfl (k_ok_some b1).1 (k_ok_some b1).2) mX4_want.2.2.1 mX4_want.2.2.2.2.1 (Nat.le_of_ble_eq_true rfl) (Nat.le_of_ble_eq_true rfl) rfl (fun q hq => pX4_want (by omega) hq) (fun x2 h3 hf => ?_)
  refine w_aload_n dX3_hand_126 rfl rfl ?_
  obtain ⟨a4, b5, hf⟩ := Option.bind_eq_some_iff.mp hf
  refine GX3_119 b5 dX3_hand_127 rfl ?_
  refine w_iconst dX3_hand_130 (v := -1) (by decide) ?_
  refine w_aload_n dX3_hand_131 rfl rfl ?_
  refine w_iload_n dX3_hand_132 rfl rfl ?_
  refine w_iconst dX3_hand_133 (v := 3) (by decide) ?_
  refine w_iadd dX3_hand_134 ?_
  obtain ⟨x6, b7, hf⟩ := Option.bind_eq_some_iff.mp hf
  refine x_rJ b7 dX3_hand_135 ?_
  refine w_l2i dX3_hand_136 ?_
  refine w_lload dX3_hand_137 rfl ?_
  refine w_l2i dX3_hand_139 ?_
  refine w_lload dX3_hand_140 rfl ?_
  refine w_l2i dX3_hand_142 ?_
  refine w_lload dX3_hand_143 rfl ?_
  refine w_l2i dX3_hand_145 ?_
  obtain ⟨_, b8, hf⟩ := Option.bind_eq_some_iff.mp hf
  refine x_cnI hf (e_stV (Yc := YX31_add) (ci := 30) (av := [.int (-1 : Int32), .int (x6).toInt32, .int (l5).toInt32, .int (l9).toInt32, .int (l11).toInt32]) (st := []) dX3_hand_146 q3378 mX31_add rfl (k_ok_some b8).1 (k_ok_some b8).2) mX31_add.2.2.1 mX31_add.2.2.2.2.1 (Nat.le_of_ble_eq_true rfl) (Nat.le_of_ble_eq_true rfl) (fun q hq => pX31_add (by omega) hq) (fun q9 hf => ?_)
  refine w_istore dX3_hand_149 (by decide) (ls' := [some (.ref l0), some (.int l1), some (.ref l2), some (.int l3), none, some (.long l5), none, none, none, some (.long l9), none, some (.long l11), none, some (.int q9.1)]) rfl ?_
  refine w_goto 225 dX3_hand_151 (by decide) ?_
  exact (pX3_hand_b225 hd hk2 hf).to ⟨rfl, rfl, trivial⟩
def fX3_hand_b120 (N : Nat) (k2 : Nat → Int32 → eH → Option ((Unit ⊕ Nat) × eH)) (l0 : Nat) (l1 : Int32) (l2 : Nat) (l3 : Int32) (l5 : Int64) (l9 : Int64) (l11 : Int64) (s0 : Nat) (h : eH) : Option ((Unit ⊕ Nat) × eH) :=
  fX3_hand_b121 N k2 l0 l1 l2 l3 l5 l9 l11 s0 (0 : Int32) h
theorem pX3_hand_b120 {w : eW} {d : Nat} (hd : 8 ≤ d + 1) {N : Nat} {k2 : Nat → Int32 → eH → Option ((Unit ⊕ Nat) × eH)} (hk2 : ∀ l0 l1 h q, k2 l0 l1 h = some q → wp w (d + 1) YX3_hand 2 [some (.ref l0), some (.int l1), none, none, none, none, none, none, none, none, none, none, none, none] [] h (e_is (e_rt c_V q))) {l0 : Nat} {l1 : Int32} {l2 : Nat} {l3 : Int32} {l5 : Int64} {l9 : Int64} {l11 : Int64} {s0 : Nat} {h : eH} {q} (hf : fX3_hand_b120 N k2 l0 l1 l2 l3 l5 l9 l11 s0 h = some q) : wp w (d + 1) YX3_hand 120 [some (.ref l0), some (.int l1), some (.ref l2), some (.int l3), none, some (.long l5), none, none, none, some (.long l9), none, some (.long l11), none, none] [.ref s0] h (e_is (e_rt c_V q)) := by
  unfold fX3_hand_b120 at hf
  refine w_iconst dX3_hand_120 (v := 0) (by decide) ?_
  exact (pX3_hand_b121 hd hk2 hf).to ⟨rfl, rfl, rfl, rfl, rfl, rfl, rfl, trivial⟩
def fX3_hand_b193 (N : Nat) (k2 : Nat → Int32 → eH → Option ((Unit ⊕ Nat) × eH)) (l0 : Nat) (l1 : Int32) (l4 : Int32) (l5 : Int64) (l7 : Int64) (s0 : Nat) (s1 : Int32) (h : eH) : Option ((Unit ⊕ Nat) × eH) :=
  (k_ok 3 h s0).bind fun _ =>
  t_B (fX4_want s0 s1 (16 : Int32) h) fun x2 h3 =>
  (g_A 2 h3 l0 15).bind fun a4 =>
  (k_ok 30 h3 a4).bind fun _ =>
  (fX31_add a4 (l4 >>> ((8 : Int32) &&& 31)) (l4 &&& (255 : Int32)) (l5).toInt32 (l7).toInt32 (0 : Int32) h3).bind fun q7 =>
  fX3_hand_b225 N k2 l0 l1 q7.2
theorem pX3_hand_b193 {w : eW} {d : Nat} (hd : 8 ≤ d + 1) {N : Nat} {k2 : Nat → Int32 → eH → Option ((Unit ⊕ Nat) × eH)} (hk2 : ∀ l0 l1 h q, k2 l0 l1 h = some q → wp w (d + 1) YX3_hand 2 [some (.ref l0), some (.int l1), none, none, none, none, none, none, none, none, none, none, none, none] [] h (e_is (e_rt c_V q))) {l0 : Nat} {l1 : Int32} {l4 : Int32} {l5 : Int64} {l7 : Int64} {s0 : Nat} {s1 : Int32} {h : eH} {q} (hf : fX3_hand_b193 N k2 l0 l1 l4 l5 l7 s0 s1 h = some q) : wp w (d + 1) YX3_hand 193 [some (.ref l0), some (.int l1), none, none, some (.int l4), some (.long l5), none, some (.long l7), none, none, none, none, none, none] [.int s1, .ref s0] h (e_is (e_rt c_V q)) := by
  unfold fX3_hand_b193 at hf
  refine w_bipush dX3_hand_193 (v := 16) (by decide) ?_
  obtain ⟨_, b1, hf⟩ := Option.bind_eq_some_iff.mp hf
  refine x_ctV hf (e_stV (Yc := YX4_want) (ci := 3) (av := [.int s1, .int (16 : Int32)]) (st := []) dX3_hand_195 q2846 mX4_want rfl (k_ok_some b1).1 (k_ok_some b1).2) mX4_want.2.2.1 mX4_want.2.2.2.2.1 (Nat.le_of_ble_eq_true rfl) (Nat.le_of_ble_eq_true rfl) rfl (fun q hq => pX4_want (by omega) hq) (fun x2 h3 hf => ?_)
  refine w_aload_n dX3_hand_198 rfl rfl ?_
  obtain ⟨a4, b5, hf⟩ := Option.bind_eq_some_iff.mp hf
  refine GX3_119 b5 dX3_hand_199 rfl ?_
  refine w_iload dX3_hand_202 rfl ?_
  refine w_bipush dX3_hand_204 (v := 8) (by decide) ?_
  refine w_ishr dX3_hand_206 ?_
  refine w_iload dX3_hand_207 rfl ?_
  refine w_sipush dX3_hand_209 (v := 255) (by decide) ?_
  refine w_iand dX3_hand_212 ?_
  refine w_lload dX3_hand_213 rfl ?_
  refine w_l2i dX3_hand_215 ?_
  refine w_lload dX3_hand_216 rfl ?_
  refine w_l2i dX3_hand_218 ?_
  refine w_iconst dX3_hand_219 (v := 0) (by decide) ?_
  obtain ⟨_, b6, hf⟩ := Option.bind_eq_some_iff.mp hf
  refine x_cnI hf (e_stV (Yc := YX31_add) (ci := 30) (av := [.int (l4 >>> ((8 : Int32) &&& 31)), .int (l4 &&& (255 : Int32)), .int (l5).toInt32, .int (l7).toInt32, .int (0 : Int32)]) (st := []) dX3_hand_220 q3378 mX31_add rfl (k_ok_some b6).1 (k_ok_some b6).2) mX31_add.2.2.1 mX31_add.2.2.2.2.1 (Nat.le_of_ble_eq_true rfl) (Nat.le_of_ble_eq_true rfl) (fun q hq => pX31_add (by omega) hq) (fun q7 hf => ?_)
  refine w_istore dX3_hand_223 (by decide) (ls' := [some (.ref l0), some (.int l1), none, none, some (.int l4), some (.long l5), none, some (.long l7), none, some (.int q7.1), none, none, none, none]) rfl ?_
  exact (pX3_hand_b225 hd hk2 hf).to ⟨rfl, rfl, trivial⟩
def fX3_hand_b192 (N : Nat) (k2 : Nat → Int32 → eH → Option ((Unit ⊕ Nat) × eH)) (l0 : Nat) (l1 : Int32) (l4 : Int32) (l5 : Int64) (l7 : Int64) (s0 : Nat) (h : eH) : Option ((Unit ⊕ Nat) × eH) :=
  fX3_hand_b193 N k2 l0 l1 l4 l5 l7 s0 (0 : Int32) h
theorem pX3_hand_b192 {w : eW} {d : Nat} (hd : 8 ≤ d + 1) {N : Nat} {k2 : Nat → Int32 → eH → Option ((Unit ⊕ Nat) × eH)} (hk2 : ∀ l0 l1 h q, k2 l0 l1 h = some q → wp w (d + 1) YX3_hand 2 [some (.ref l0), some (.int l1), none, none, none, none, none, none, none, none, none, none, none, none] [] h (e_is (e_rt c_V q))) {l0 : Nat} {l1 : Int32} {l4 : Int32} {l5 : Int64} {l7 : Int64} {s0 : Nat} {h : eH} {q} (hf : fX3_hand_b192 N k2 l0 l1 l4 l5 l7 s0 h = some q) : wp w (d + 1) YX3_hand 192 [some (.ref l0), some (.int l1), none, none, some (.int l4), some (.long l5), none, some (.long l7), none, none, none, none, none, none] [.ref s0] h (e_is (e_rt c_V q)) := by
  unfold fX3_hand_b192 at hf
  refine w_iconst dX3_hand_192 (v := 0) (by decide) ?_
  exact (pX3_hand_b193 hd hk2 hf).to ⟨rfl, rfl, rfl, rfl, rfl, trivial⟩
def fX3_hand_b2 (N : Nat) : Nat → Nat → Int32 → eH → Option ((Unit ⊕ Nat) × eH)
  | 0, _, _, _ => none
  | n + 1, l0, l1, h =>
    (g_A 2 h l0 10).bind fun a1 =>
    (g_I 19 h a1 3).bind fun x3 =>
    if x3 ≤ l1 then
      some (.inl (), h)
    else
      (g_A 2 h l0 10).bind fun a6 =>
      (g_A 19 h a6 2).bind fun a8 =>
      (r_J h a8 ((6 : Int32) * l1)).bind fun x10 =>
      (r_J h a8 (((6 : Int32) * l1) + (1 : Int32))).bind fun x12 =>
      (r_J h a8 (((6 : Int32) * l1) + (2 : Int32))).bind fun x14 =>
      if ¬ (x10).toInt32 = (-1 : Int32) then
        (g_A 2 h l0 0).bind fun a17 =>
        (fX3_isNear x12 h).bind fun q19 =>
        if q19.1 = 0 then
          fX3_hand_b192 N (fX3_hand_b2 N n) l0 l1 (x10).toInt32 x12 x14 a17 q19.2
        else
          (fX3_isNear x14 q19.2).bind fun q21 =>
          if q21.1 = 0 then
            fX3_hand_b192 N (fX3_hand_b2 N n) l0 l1 (x10).toInt32 x12 x14 a17 q21.2
          else
            (r_J q21.2 a8 (((6 : Int32) * l1) + (3 : Int32))).bind fun x23 =>
            (fX3_isNear (x12 + x23) q21.2).bind fun q25 =>
            if q25.1 = 0 then
              fX3_hand_b192 N (fX3_hand_b2 N n) l0 l1 (x10).toInt32 x12 x14 a17 q25.2
            else
              fX3_hand_b193 N (fX3_hand_b2 N n) l0 l1 (x10).toInt32 x12 x14 a17 (1 : Int32) q25.2
      else
        (r_J h a8 (((6 : Int32) * l1) + (5 : Int32))).bind fun x27 =>
        (r_J h a8 (((6 : Int32) * l1) + (4 : Int32))).bind fun x29 =>
        (r_J h a8 (((6 : Int32) * l1) + (5 : Int32))).bind fun x31 =>
        (g_A 2 h l0 0).bind fun a33 =>
        (fX3_isNear x12 h).bind fun q35 =>
        if q35.1 = 0 then
          fX3_hand_b120 N (fX3_hand_b2 N n) l0 l1 a8 ((6 : Int32) * l1) x12 (x14 + x27) (x29 + x31) a33 q35.2
        else
          (fX3_isNear (x14 + x27) q35.2).bind fun q37 =>
          if q37.1 = 0 then
            fX3_hand_b120 N (fX3_hand_b2 N n) l0 l1 a8 ((6 : Int32) * l1) x12 (x14 + x27) (x29 + x31) a33 q37.2
          else
            (r_J q37.2 a8 (((6 : Int32) * l1) + (3 : Int32))).bind fun x39 =>
            if 0 < (lg_cmp x39 (1000000000 : Int64)) then
              fX3_hand_b120 N (fX3_hand_b2 N n) l0 l1 a8 ((6 : Int32) * l1) x12 (x14 + x27) (x29 + x31) a33 q37.2
            else
              if 0 < (lg_cmp (x29 + x31) (1000000000 : Int64)) then
                fX3_hand_b120 N (fX3_hand_b2 N n) l0 l1 a8 ((6 : Int32) * l1) x12 (x14 + x27) (x29 + x31) a33 q37.2
              else
                fX3_hand_b121 N (fX3_hand_b2 N n) l0 l1 a8 ((6 : Int32) * l1) x12 (x14 + x27) (x29 + x31) a33 (1 : Int32) q37.2
theorem pX3_hand_b2 {w : eW} {d : Nat} (hd : 8 ≤ d + 1) {N : Nat} : ∀ (n : Nat) l0 l1 h q, fX3_hand_b2 N n l0 l1 h = some q → wp w (d + 1) YX3_hand 2 [some (.ref l0), some (.int l1), none, none, none, none, none, none, none, none, none, none, none, none] [] h (e_is (e_rt c_V q)) := by
  intro n
  induction n with
  | zero => intro l0 l1 h q hf; simp [fX3_hand_b2] at hf
  | succ n ih =>
    intro l0 l1 h q hf
    rw [fX3_hand_b2] at hf
    refine w_iload_n dX3_hand_2 rfl rfl ?_
    refine w_aload_n dX3_hand_3 rfl rfl ?_
    obtain ⟨a1, b2, hf⟩ := Option.bind_eq_some_iff.mp hf
    refine GX3_80 b2 dX3_hand_4 rfl ?_
    obtain ⟨x3, b4, hf⟩ := Option.bind_eq_some_iff.mp hf
    refine GX3_615 b4 dX3_hand_7 rfl ?_
    refine w_icmp_ge 231 dX3_hand_10 (by decide) (fun c5 => ?_) (fun c5 => ?_)
    · replace hf := (if_pos (show x3 ≤ l1 from c5)).symm.trans hf
      cases hf
      exact w_vret dX3_hand_231 rfl rfl
    · replace hf := (if_neg (show ¬ (x3 ≤ l1) from c5)).symm.trans hf
      refine w_aload_n dX3_hand_13 rfl rfl ?_
      obtain ⟨a6, b7, hf⟩ := Option.bind_eq_some_iff.mp hf
      refine GX3_80 b7 dX3_hand_14 rfl ?_
      obtain ⟨a8, b9, hf⟩ := Option.bind_eq_some_iff.mp hf
      refine GX3_651 b9 dX3_hand_17 rfl ?_
      refine w_astore_n dX3_hand_20 rfl (by decide) (ls' := [some (.ref l0), some (.int l1), some (.ref a8), none, none, none, none, none, none, none, none, none, none, none]) rfl ?_
      refine w_bipush dX3_hand_21 (v := 6) (by decide) ?_
      refine w_iload_n dX3_hand_23 rfl rfl ?_
      refine w_imul dX3_hand_24 ?_
      refine w_istore_n dX3_hand_25 rfl (by decide) (ls' := [some (.ref l0), some (.int l1), some (.ref a8), some (.int ((6 : Int32) * l1)), none, none, none, none, none, none, none, none, none, none]) rfl ?_
      refine w_aload_n dX3_hand_26 rfl rfl ?_
      refine w_iload_n dX3_hand_27 rfl rfl ?_
      obtain ⟨x10, b11, hf⟩ := Option.bind_eq_some_iff.mp hf
      refine x_rJ b11 dX3_hand_28 ?_
      refine w_l2i dX3_hand_29 ?_
      refine w_istore dX3_hand_30 (by decide) (ls' := [some (.ref l0), some (.int l1), some (.ref a8), some (.int ((6 : Int32) * l1)), some (.int (x10).toInt32), none, none, none, none, none, none, none, none, none]) rfl ?_
      refine w_aload_n dX3_hand_32 rfl rfl ?_
      refine w_iload_n dX3_hand_33 rfl rfl ?_
      refine w_iconst dX3_hand_34 (v := 1) (by decide) ?_
      refine w_iadd dX3_hand_35 ?_
      obtain ⟨x12, b13, hf⟩ := Option.bind_eq_some_iff.mp hf
      refine x_rJ b13 dX3_hand_36 ?_
      refine w_lstore dX3_hand_37 (by decide) (ls' := [some (.ref l0), some (.int l1), some (.ref a8), some (.int ((6 : Int32) * l1)), some (.int (x10).toInt32), some (.long x12), none, none, none, none, none, none, none, none]) rfl ?_
      refine w_aload_n dX3_hand_39 rfl rfl ?_
      refine w_iload_n dX3_hand_40 rfl rfl ?_
      refine w_iconst dX3_hand_41 (v := 2) (by decide) ?_
      refine w_iadd dX3_hand_42 ?_
      obtain ⟨x14, b15, hf⟩ := Option.bind_eq_some_iff.mp hf
      refine x_rJ b15 dX3_hand_43 ?_
      refine w_lstore dX3_hand_44 (by decide) (ls' := [some (.ref l0), some (.int l1), some (.ref a8), some (.int ((6 : Int32) * l1)), some (.int (x10).toInt32), some (.long x12), none, some (.long x14), none, none, none, none, none, none]) rfl ?_
      refine w_iload dX3_hand_46 rfl ?_
      refine w_iconst dX3_hand_48 (v := -1) (by decide) ?_
      refine w_icmp_ne 154 dX3_hand_49 (by decide) (fun c16 => ?_) (fun c16 => ?_)
      · replace hf := (if_pos (show ¬ (x10).toInt32 = (-1 : Int32) from c16)).symm.trans hf
        refine w_aload_n dX3_hand_154 rfl rfl ?_
        obtain ⟨a17, b18, hf⟩ := Option.bind_eq_some_iff.mp hf
        refine GX3_14 b18 dX3_hand_155 rfl ?_
        refine w_lload dX3_hand_158 rfl ?_
        refine x_cnI hf (e_stS (Yc := YX3_isNear) (av := [.long x12]) (st := [.ref a17]) dX3_hand_160 q3373 mX3_isNear) mX3_isNear.2.2.1 mX3_isNear.2.2.2.2.1 (Nat.le_of_ble_eq_true rfl) (Nat.le_of_ble_eq_true rfl) (fun q hq => pX3_isNear (by omega) hq) (fun q19 hf => ?_)
        refine w_if_eq 192 dX3_hand_163 (by decide) (fun c20 => ?_) (fun c20 => ?_)
        · replace hf := (if_pos (show q19.1 = 0 from c20)).symm.trans hf
          exact (pX3_hand_b192 hd ih hf).to ⟨rfl, rfl, rfl, rfl, rfl, trivial⟩
        · replace hf := (if_neg (show ¬ (q19.1 = 0) from c20)).symm.trans hf
          refine w_lload dX3_hand_166 rfl ?_
          refine x_cnI hf (e_stS (Yc := YX3_isNear) (av := [.long x14]) (st := [.ref a17]) dX3_hand_168 q3373 mX3_isNear) mX3_isNear.2.2.1 mX3_isNear.2.2.2.2.1 (Nat.le_of_ble_eq_true rfl) (Nat.le_of_ble_eq_true rfl) (fun q hq => pX3_isNear (by omega) hq) (fun q21 hf => ?_)
          refine w_if_eq 192 dX3_hand_171 (by decide) (fun c22 => ?_) (fun c22 => ?_)
          · replace hf := (if_pos (show q21.1 = 0 from c22)).symm.trans hf
            exact (pX3_hand_b192 hd ih hf).to ⟨rfl, rfl, rfl, rfl, rfl, trivial⟩
          · replace hf := (if_neg (show ¬ (q21.1 = 0) from c22)).symm.trans hf
            refine w_lload dX3_hand_174 rfl ?_
            refine w_aload_n dX3_hand_176 rfl rfl ?_
            refine w_iload_n dX3_hand_177 rfl rfl ?_
            refine w_iconst dX3_hand_178 (v := 3) (by decide) ?_
            refine w_iadd dX3_hand_179 ?_
            obtain ⟨x23, b24, hf⟩ := Option.bind_eq_some_iff.mp hf
            refine x_rJ b24 dX3_hand_180 ?_
            refine w_ladd dX3_hand_181 ?_
            refine x_cnI hf (e_stS (Yc := YX3_isNear) (av := [.long (x12 + x23)]) (st := [.ref a17]) dX3_hand_182 q3373 mX3_isNear) mX3_isNear.2.2.1 mX3_isNear.2.2.2.2.1 (Nat.le_of_ble_eq_true rfl) (Nat.le_of_ble_eq_true rfl) (fun q hq => pX3_isNear (by omega) hq) (fun q25 hf => ?_)
            refine w_if_eq 192 dX3_hand_185 (by decide) (fun c26 => ?_) (fun c26 => ?_)
            · replace hf := (if_pos (show q25.1 = 0 from c26)).symm.trans hf
              exact (pX3_hand_b192 hd ih hf).to ⟨rfl, rfl, rfl, rfl, rfl, trivial⟩
            · replace hf := (if_neg (show ¬ (q25.1 = 0) from c26)).symm.trans hf
              refine w_iconst dX3_hand_188 (v := 1) (by decide) ?_
              refine w_goto 193 dX3_hand_189 (by decide) ?_
              exact (pX3_hand_b193 hd ih hf).to ⟨rfl, rfl, rfl, rfl, rfl, trivial⟩
      · replace hf := (if_neg (show ¬ (¬ (x10).toInt32 = (-1 : Int32)) from (fun z => z c16))).symm.trans hf
        refine w_lload dX3_hand_52 rfl ?_
        refine w_aload_n dX3_hand_54 rfl rfl ?_
        refine w_iload_n dX3_hand_55 rfl rfl ?_
        refine w_iconst dX3_hand_56 (v := 5) (by decide) ?_
        refine w_iadd dX3_hand_57 ?_
        obtain ⟨x27, b28, hf⟩ := Option.bind_eq_some_iff.mp hf
        refine x_rJ b28 dX3_hand_58 ?_
        refine w_ladd dX3_hand_59 ?_
        refine w_lstore dX3_hand_60 (by decide) (ls' := [some (.ref l0), some (.int l1), some (.ref a8), some (.int ((6 : Int32) * l1)), some (.int (x10).toInt32), some (.long x12), none, some (.long x14), none, some (.long (x14 + x27)), none, none, none, none]) rfl ?_
        refine w_aload_n dX3_hand_62 rfl rfl ?_
        refine w_iload_n dX3_hand_63 rfl rfl ?_
        refine w_iconst dX3_hand_64 (v := 4) (by decide) ?_
        refine w_iadd dX3_hand_65 ?_
        obtain ⟨x29, b30, hf⟩ := Option.bind_eq_some_iff.mp hf
        refine x_rJ b30 dX3_hand_66 ?_
        refine w_aload_n dX3_hand_67 rfl rfl ?_
        refine w_iload_n dX3_hand_68 rfl rfl ?_
        refine w_iconst dX3_hand_69 (v := 5) (by decide) ?_
        refine w_iadd dX3_hand_70 ?_
        obtain ⟨x31, b32, hf⟩ := Option.bind_eq_some_iff.mp hf
        refine x_rJ b32 dX3_hand_71 ?_
        refine w_ladd dX3_hand_72 ?_
        refine w_lstore dX3_hand_73 (by decide) (ls' := [some (.ref l0), some (.int l1), some (.ref a8), some (.int ((6 : Int32) * l1)), some (.int (x10).toInt32), some (.long x12), none, some (.long x14), none, some (.long (x14 + x27)), none, some (.long (x29 + x31)), none, none]) rfl ?_
        refine w_aload_n dX3_hand_75 rfl rfl ?_
        obtain ⟨a33, b34, hf⟩ := Option.bind_eq_some_iff.mp hf
        refine GX3_14 b34 dX3_hand_76 rfl ?_
        refine w_lload dX3_hand_79 rfl ?_
        refine x_cnI hf (e_stS (Yc := YX3_isNear) (av := [.long x12]) (st := [.ref a33]) dX3_hand_81 q3373 mX3_isNear) mX3_isNear.2.2.1 mX3_isNear.2.2.2.2.1 (Nat.le_of_ble_eq_true rfl) (Nat.le_of_ble_eq_true rfl) (fun q hq => pX3_isNear (by omega) hq) (fun q35 hf => ?_)
        refine w_if_eq 120 dX3_hand_84 (by decide) (fun c36 => ?_) (fun c36 => ?_)
        · replace hf := (if_pos (show q35.1 = 0 from c36)).symm.trans hf
          exact (pX3_hand_b120 hd ih hf).to ⟨rfl, rfl, rfl, rfl, rfl, rfl, rfl, trivial⟩
        · replace hf := (if_neg (show ¬ (q35.1 = 0) from c36)).symm.trans hf
          refine w_lload dX3_hand_87 rfl ?_
          refine x_cnI hf (e_stS (Yc := YX3_isNear) (av := [.long (x14 + x27)]) (st := [.ref a33]) dX3_hand_89 q3373 mX3_isNear) mX3_isNear.2.2.1 mX3_isNear.2.2.2.2.1 (Nat.le_of_ble_eq_true rfl) (Nat.le_of_ble_eq_true rfl) (fun q hq => pX3_isNear (by omega) hq) (fun q37 hf => ?_)
          refine w_if_eq 120 dX3_hand_92 (by decide) (fun c38 => ?_) (fun c38 => ?_)
          · replace hf := (if_pos (show q37.1 = 0 from c38)).symm.trans hf
            exact (pX3_hand_b120 hd ih hf).to ⟨rfl, rfl, rfl, rfl, rfl, rfl, rfl, trivial⟩
          · replace hf := (if_neg (show ¬ (q37.1 = 0) from c38)).symm.trans hf
            refine w_aload_n dX3_hand_95 rfl rfl ?_
            refine w_iload_n dX3_hand_96 rfl rfl ?_
            refine w_iconst dX3_hand_97 (v := 3) (by decide) ?_
            refine w_iadd dX3_hand_98 ?_
            obtain ⟨x39, b40, hf⟩ := Option.bind_eq_some_iff.mp hf
            refine x_rJ b40 dX3_hand_99 ?_
            refine w_ldc2 dX3_hand_100 q3377 ?_
            refine w_lcmp dX3_hand_103 ?_
            refine w_if_gt 120 dX3_hand_104 (by decide) (fun c41 => ?_) (fun c41 => ?_)
            · replace hf := (if_pos (show 0 < (lg_cmp x39 (1000000000 : Int64)) from c41)).symm.trans hf
              exact (pX3_hand_b120 hd ih hf).to ⟨rfl, rfl, rfl, rfl, rfl, rfl, rfl, trivial⟩
            · replace hf := (if_neg (show ¬ (0 < (lg_cmp x39 (1000000000 : Int64))) from c41)).symm.trans hf
              refine w_lload dX3_hand_107 rfl ?_
              refine w_ldc2 dX3_hand_109 q3377 ?_
              refine w_lcmp dX3_hand_112 ?_
              refine w_if_gt 120 dX3_hand_113 (by decide) (fun c42 => ?_) (fun c42 => ?_)
              · replace hf := (if_pos (show 0 < (lg_cmp (x29 + x31) (1000000000 : Int64)) from c42)).symm.trans hf
                exact (pX3_hand_b120 hd ih hf).to ⟨rfl, rfl, rfl, rfl, rfl, rfl, rfl, trivial⟩
              · replace hf := (if_neg (show ¬ (0 < (lg_cmp (x29 + x31) (1000000000 : Int64))) from c42)).symm.trans hf
                refine w_iconst dX3_hand_116 (v := 1) (by decide) ?_
                refine w_goto 121 dX3_hand_117 (by decide) ?_
                exact (pX3_hand_b121 hd ih hf).to ⟨rfl, rfl, rfl, rfl, rfl, rfl, rfl, trivial⟩
def fX3_hand (N : Nat) (this : Nat) (h : eH) : Option ((Unit ⊕ Nat) × eH) :=
  fX3_hand_b2 N N this (0 : Int32) h
theorem pX3_hand {w : eW} {d : Nat} (hd : 8 ≤ d) {N : Nat} {this : Nat} {h : eH} {q} (hf : fX3_hand N this h = some q) : wm w d YX3_hand [.ref this] h (e_is (e_rt c_V q)) := by
  obtain ⟨d, rfl⟩ : ∃ e, d = e + 1 := ⟨d - 1, by omega⟩
  show wp w (d + 1) YX3_hand 0 [some (.ref this), none, none, none, none, none, none, none, none, none, none, none, none, none] [] h _
  unfold fX3_hand at hf
  refine w_iconst dX3_hand_0 (v := 0) (by decide) ?_
  refine w_istore_n dX3_hand_1 rfl (by decide) (ls' := [some (.ref this), some (.int (0 : Int32)), none, none, none, none, none, none, none, none, none, none, none, none]) rfl ?_
  exact (pX3_hand_b2 hd N _ _ _ _ hf).to ⟨rfl, rfl, trivial⟩
abbrev cX33_clear : ByteArray := prog_16_method_2_code
def yX33_clear : MethodName := ⟨RX33, "clear", "()V"⟩
def YX33_clear : eY := (yX33_clear, cX33_clear, 1, none, [])
theorem mX33_clear : e_mv YX33_clear RX33 0 := ⟨q3392, q3393, q3394, by decide, by decide +kernel, (e_sig (by decide +kernel))⟩
theorem dX33_clear_0 : decode cX33_clear 0 = .ok (.aload_n 0, 1) := dc_42 (by decide +kernel)
theorem dX33_clear_1 : decode cX33_clear 1 = .ok (.iconst 0, 1) := dc_3 (by decide +kernel)
theorem dX33_clear_2 : decode cX33_clear 2 = .ok (.putfield 28, 3) := dc_181 (a := 0) (b := 28) (n := 28) (by decide +kernel)
theorem dX33_clear_5 : decode cX33_clear 5 = .ok (.aload_n 0, 1) := dc_42 (by decide +kernel)
theorem dX33_clear_6 : decode cX33_clear 6 = .ok (.iconst 0, 1) := dc_3 (by decide +kernel)
theorem dX33_clear_7 : decode cX33_clear 7 = .ok (.putfield 31, 3) := dc_181 (a := 0) (b := 31) (n := 31) (by decide +kernel)
theorem dX33_clear_10 : decode cX33_clear 10 = .ok (.aload_n 0, 1) := dc_42 (by decide +kernel)
theorem dX33_clear_11 : decode cX33_clear 11 = .ok (.iconst (-1), 1) := dc_2 (by decide +kernel)
theorem dX33_clear_12 : decode cX33_clear 12 = .ok (.putfield 34, 3) := dc_181 (a := 0) (b := 34) (n := 34) (by decide +kernel)
theorem dX33_clear_15 : decode cX33_clear 15 = .ok (.aload_n 0, 1) := dc_42 (by decide +kernel)
theorem dX33_clear_16 : decode cX33_clear 16 = .ok (.iconst (-1), 1) := dc_2 (by decide +kernel)
theorem dX33_clear_17 : decode cX33_clear 17 = .ok (.putfield 37, 3) := dc_181 (a := 0) (b := 37) (n := 37) (by decide +kernel)
theorem dX33_clear_20 : decode cX33_clear 20 = .ok (.return_, 1) := dc_177 (by decide +kernel)
theorem SX33_28 {w : eW} {d : Nat} {Y : eY} {pc : Nat} {ls : eL} {st : List Value} {h : eH} {Q : eO → eH → Prop} {a : Nat} {h' : eH} {x : Int32} (hf : p_V 32 h a 4 (.int x) = some h') (hd : decode Y.2.1 pc = .ok (.putfield 28, 3)) (hY : Y.1.cls = RX33) (kk : wp w d Y (pc + 3) ls st h' Q) : wp w d Y pc ls (.int x :: .ref a :: st) h Q := x_pI (ci := 32) (k := 4) hf hd rfl (by decide) (by rw [hY]; exact q1690) rfl rfl kk
theorem SX33_31 {w : eW} {d : Nat} {Y : eY} {pc : Nat} {ls : eL} {st : List Value} {h : eH} {Q : eO → eH → Prop} {a : Nat} {h' : eH} {x : Int32} (hf : p_V 32 h a 5 (.int x) = some h') (hd : decode Y.2.1 pc = .ok (.putfield 31, 3)) (hY : Y.1.cls = RX33) (kk : wp w d Y (pc + 3) ls st h' Q) : wp w d Y pc ls (.int x :: .ref a :: st) h Q := x_pI (ci := 32) (k := 5) hf hd rfl (by decide) (by rw [hY]; exact q1691) rfl rfl kk
theorem SX33_34 {w : eW} {d : Nat} {Y : eY} {pc : Nat} {ls : eL} {st : List Value} {h : eH} {Q : eO → eH → Prop} {a : Nat} {h' : eH} {x : Int32} (hf : p_V 32 h a 6 (.int x) = some h') (hd : decode Y.2.1 pc = .ok (.putfield 34, 3)) (hY : Y.1.cls = RX33) (kk : wp w d Y (pc + 3) ls st h' Q) : wp w d Y pc ls (.int x :: .ref a :: st) h Q := x_pI (ci := 32) (k := 6) hf hd rfl (by decide) (by rw [hY]; exact q1692) rfl rfl kk
theorem SX33_37 {w : eW} {d : Nat} {Y : eY} {pc : Nat} {ls : eL} {st : List Value} {h : eH} {Q : eO → eH → Prop} {a : Nat} {h' : eH} {x : Int32} (hf : p_V 32 h a 7 (.int x) = some h') (hd : decode Y.2.1 pc = .ok (.putfield 37, 3)) (hY : Y.1.cls = RX33) (kk : wp w d Y (pc + 3) ls st h' Q) : wp w d Y pc ls (.int x :: .ref a :: st) h Q := x_pI (ci := 32) (k := 7) hf hd rfl (by decide) (by rw [hY]; exact q1693) rfl rfl kk
def fX33_clear (this : Nat) (h : eH) : Option (Unit × eH) :=
  (p_V 32 h this 4 (.int (0 : Int32))).bind fun h1 =>
  (p_V 32 h1 this 5 (.int (0 : Int32))).bind fun h3 =>
  (p_V 32 h3 this 6 (.int (-1 : Int32))).bind fun h5 =>
  (p_V 32 h5 this 7 (.int (-1 : Int32))).bind fun h7 =>
  some ((), h7)
theorem pX33_clear {w : eW} {d : Nat} (hd : 0 ≤ d) {this : Nat} {h : eH} {q} (hf : fX33_clear this h = some q) : wm w d YX33_clear [.ref this] h (e_is (e_rn c_V q)) := by
  show wp w d YX33_clear 0 [some (.ref this)] [] h _
  unfold fX33_clear at hf
  refine w_aload_n dX33_clear_0 rfl rfl ?_
  refine w_iconst dX33_clear_1 (v := 0) (by decide) ?_
  obtain ⟨h1, b2, hf⟩ := Option.bind_eq_some_iff.mp hf
  refine SX33_28 b2 dX33_clear_2 rfl ?_
  refine w_aload_n dX33_clear_5 rfl rfl ?_
  refine w_iconst dX33_clear_6 (v := 0) (by decide) ?_
  obtain ⟨h3, b4, hf⟩ := Option.bind_eq_some_iff.mp hf
  refine SX33_31 b4 dX33_clear_7 rfl ?_
  refine w_aload_n dX33_clear_10 rfl rfl ?_
  refine w_iconst dX33_clear_11 (v := -1) (by decide) ?_
  obtain ⟨h5, b6, hf⟩ := Option.bind_eq_some_iff.mp hf
  refine SX33_34 b6 dX33_clear_12 rfl ?_
  refine w_aload_n dX33_clear_15 rfl rfl ?_
  refine w_iconst dX33_clear_16 (v := -1) (by decide) ?_
  obtain ⟨h7, b8, hf⟩ := Option.bind_eq_some_iff.mp hf
  refine SX33_37 b8 dX33_clear_17 rfl ?_
  cases hf
  exact w_vret dX33_clear_20 rfl rfl
abbrev cX33_add : ByteArray := prog_16_method_3_code
def yX33_add : MethodName := ⟨RX33, "add", "(I)V"⟩
def YX33_add : eY := (yX33_add, cX33_add, 2, none, [])
theorem mX33_add : e_mv YX33_add RX33 1 := ⟨q3396, q3397, q3398, by decide, by decide +kernel, (e_sig (by decide +kernel))⟩
theorem dX33_add_0 : decode cX33_add 0 = .ok (.iload_n 1, 1) := dc_27 (by decide +kernel)
theorem dX33_add_1 : decode cX33_add 1 = .ok (.ifCond .eq 20, 3) := dc_153 (a := 0) (b := 20) (v := 20) (by decide +kernel)
theorem dX33_add_4 : decode cX33_add 4 = .ok (.aload_n 0, 1) := dc_42 (by decide +kernel)
theorem dX33_add_5 : decode cX33_add 5 = .ok (.getfield 9, 3) := dc_180 (a := 0) (b := 9) (n := 9) (by decide +kernel)
theorem dX33_add_8 : decode cX33_add 8 = .ok (.aload_n 0, 1) := dc_42 (by decide +kernel)
theorem dX33_add_9 : decode cX33_add 9 = .ok (.dup, 1) := dc_89 (by decide +kernel)
theorem dX33_add_10 : decode cX33_add 10 = .ok (.getfield 28, 3) := dc_180 (a := 0) (b := 28) (n := 28) (by decide +kernel)
theorem dX33_add_13 : decode cX33_add 13 = .ok (.dup_x1, 1) := dc_90 (by decide +kernel)
theorem dX33_add_14 : decode cX33_add 14 = .ok (.iconst 1, 1) := dc_4 (by decide +kernel)
theorem dX33_add_15 : decode cX33_add 15 = .ok (.iadd, 1) := dc_96 (by decide +kernel)
theorem dX33_add_16 : decode cX33_add 16 = .ok (.putfield 28, 3) := dc_181 (a := 0) (b := 28) (n := 28) (by decide +kernel)
theorem dX33_add_19 : decode cX33_add 19 = .ok (.iload_n 1, 1) := dc_27 (by decide +kernel)
theorem dX33_add_20 : decode cX33_add 20 = .ok (.iastore, 1) := dc_79 (by decide +kernel)
theorem dX33_add_21 : decode cX33_add 21 = .ok (.return_, 1) := dc_177 (by decide +kernel)
theorem GX33_28 {w : eW} {d : Nat} {Y : eY} {pc : Nat} {ls : eL} {st : List Value} {h : eH} {Q : eO → eH → Prop} {a : Nat} {x : Int32} (hf : g_I 32 h a 4 = some x) (hd : decode Y.2.1 pc = .ok (.getfield 28, 3)) (hY : Y.1.cls = RX33) (kk : wp w d Y (pc + 3) ls (.int x :: st) h Q) : wp w d Y pc ls (.ref a :: st) h Q := x_gI (ci := 32) (k := 4) hf hd rfl (by decide) (by rw [hY]; exact q1690) kk
theorem GX33_9 {w : eW} {d : Nat} {Y : eY} {pc : Nat} {ls : eL} {st : List Value} {h : eH} {Q : eO → eH → Prop} {a : Nat} {x : Nat} (hf : g_A 32 h a 2 = some x) (hd : decode Y.2.1 pc = .ok (.getfield 9, 3)) (hY : Y.1.cls = RX33) (kk : wp w d Y (pc + 3) ls (.ref x :: st) h Q) : wp w d Y pc ls (.ref a :: st) h Q := x_gA (ci := 32) (k := 2) hf hd rfl (by decide) (by rw [hY]; exact q1688) kk
def fX33_add_b21  (h : eH) : Option (Unit × eH) :=
  some ((), h)
theorem pX33_add_b21 {w : eW} {d : Nat} (hd : 0 ≤ d)  {h : eH} {q} (hf : fX33_add_b21  h = some q) : wp w d YX33_add 21 [none, none] [] h (e_is (e_rn c_V q)) := by
  unfold fX33_add_b21 at hf
  cases hf
  exact w_vret dX33_add_21 rfl rfl
def fX33_add (this : Nat) (p0 : Int32) (h : eH) : Option (Unit × eH) :=
  if p0 = 0 then
    fX33_add_b21 h
  else
    (g_A 32 h this 2).bind fun a2 =>
    (g_I 32 h this 4).bind fun x4 =>
    (p_V 32 h this 4 (.int (x4 + (1 : Int32)))).bind fun h6 =>
    (q_V 100 h6 a2 x4 (.int p0)).bind fun h8 =>
    fX33_add_b21 h8
theorem pX33_add {w : eW} {d : Nat} (hd : 0 ≤ d) {this : Nat} {p0 : Int32} {h : eH} {q} (hf : fX33_add this p0 h = some q) : wm w d YX33_add [.ref this, .int p0] h (e_is (e_rn c_V q)) := by
  show wp w d YX33_add 0 [some (.ref this), some (.int p0)] [] h _
  unfold fX33_add at hf
  refine w_iload_n dX33_add_0 rfl rfl ?_
  refine w_if_eq 21 dX33_add_1 (by decide) (fun c1 => ?_) (fun c1 => ?_)
  · replace hf := (if_pos (show p0 = 0 from c1)).symm.trans hf
    exact (pX33_add_b21 hd hf).to trivial
  · replace hf := (if_neg (show ¬ (p0 = 0) from c1)).symm.trans hf
    refine w_aload_n dX33_add_4 rfl rfl ?_
    obtain ⟨a2, b3, hf⟩ := Option.bind_eq_some_iff.mp hf
    refine GX33_9 b3 dX33_add_5 rfl ?_
    refine w_aload_n dX33_add_8 rfl rfl ?_
    refine w_dup dX33_add_9 rfl ?_
    obtain ⟨x4, b5, hf⟩ := Option.bind_eq_some_iff.mp hf
    refine GX33_28 b5 dX33_add_10 rfl ?_
    refine w_dup_x1 dX33_add_13 rfl rfl ?_
    refine w_iconst dX33_add_14 (v := 1) (by decide) ?_
    refine w_iadd dX33_add_15 ?_
    obtain ⟨h6, b7, hf⟩ := Option.bind_eq_some_iff.mp hf
    refine SX33_28 b7 dX33_add_16 rfl ?_
    refine w_iload_n dX33_add_19 rfl rfl ?_
    obtain ⟨h8, b9, hf⟩ := Option.bind_eq_some_iff.mp hf
    refine x_qI b9 dX33_add_20 ?_
    exact (pX33_add_b21 hd hf).to trivial
abbrev cX31_behind : ByteArray := prog_35_method_4_code
def yX31_behind : MethodName := ⟨RX31, "behind", "(I)I"⟩
def YX31_behind : eY := (yX31_behind, cX31_behind, 2, (Option.some FieldType.int), [])
theorem mX31_behind : e_mv YX31_behind RX31 1 := ⟨q3401, qs136, q3402, by decide, by decide +kernel, (e_sig (by decide +kernel))⟩
theorem dX31_behind_0 : decode cX31_behind 0 = .ok (.aload_n 0, 1) := dc_42 (by decide +kernel)
theorem dX31_behind_1 : decode cX31_behind 1 = .ok (.getfield 25, 3) := dc_180 (a := 0) (b := 25) (n := 25) (by decide +kernel)
theorem dX31_behind_4 : decode cX31_behind 4 = .ok (.iload_n 1, 1) := dc_27 (by decide +kernel)
theorem dX31_behind_5 : decode cX31_behind 5 = .ok (.iaload, 1) := dc_46 (by decide +kernel)
theorem dX31_behind_6 : decode cX31_behind 6 = .ok (.iconst (-1), 1) := dc_2 (by decide +kernel)
theorem dX31_behind_7 : decode cX31_behind 7 = .ok (.if_icmp .ne 12, 3) := dc_160 (a := 0) (b := 12) (v := 12) (by decide +kernel)
theorem dX31_behind_10 : decode cX31_behind 10 = .ok (.aload_n 0, 1) := dc_42 (by decide +kernel)
theorem dX31_behind_11 : decode cX31_behind 11 = .ok (.getfield 31, 3) := dc_180 (a := 0) (b := 31) (n := 31) (by decide +kernel)
theorem dX31_behind_14 : decode cX31_behind 14 = .ok (.iload_n 1, 1) := dc_27 (by decide +kernel)
theorem dX31_behind_15 : decode cX31_behind 15 = .ok (.iaload, 1) := dc_46 (by decide +kernel)
theorem dX31_behind_16 : decode cX31_behind 16 = .ok (.goto 29, 3) := dc_167 (a := 0) (b := 29) (v := 29) (by decide +kernel)
theorem dX31_behind_19 : decode cX31_behind 19 = .ok (.aload_n 0, 1) := dc_42 (by decide +kernel)
theorem dX31_behind_20 : decode cX31_behind 20 = .ok (.getfield 31, 3) := dc_180 (a := 0) (b := 31) (n := 31) (by decide +kernel)
theorem dX31_behind_23 : decode cX31_behind 23 = .ok (.iload_n 1, 1) := dc_27 (by decide +kernel)
theorem dX31_behind_24 : decode cX31_behind 24 = .ok (.iaload, 1) := dc_46 (by decide +kernel)
theorem dX31_behind_25 : decode cX31_behind 25 = .ok (.aload_n 0, 1) := dc_42 (by decide +kernel)
theorem dX31_behind_26 : decode cX31_behind 26 = .ok (.getfield 56, 3) := dc_180 (a := 0) (b := 56) (n := 56) (by decide +kernel)
theorem dX31_behind_29 : decode cX31_behind 29 = .ok (.aload_n 0, 1) := dc_42 (by decide +kernel)
theorem dX31_behind_30 : decode cX31_behind 30 = .ok (.getfield 25, 3) := dc_180 (a := 0) (b := 25) (n := 25) (by decide +kernel)
theorem dX31_behind_33 : decode cX31_behind 33 = .ok (.iload_n 1, 1) := dc_27 (by decide +kernel)
theorem dX31_behind_34 : decode cX31_behind 34 = .ok (.iaload, 1) := dc_46 (by decide +kernel)
theorem dX31_behind_35 : decode cX31_behind 35 = .ok (.aload_n 0, 1) := dc_42 (by decide +kernel)
theorem dX31_behind_36 : decode cX31_behind 36 = .ok (.getfield 28, 3) := dc_180 (a := 0) (b := 28) (n := 28) (by decide +kernel)
theorem dX31_behind_39 : decode cX31_behind 39 = .ok (.iload_n 1, 1) := dc_27 (by decide +kernel)
theorem dX31_behind_40 : decode cX31_behind 40 = .ok (.iaload, 1) := dc_46 (by decide +kernel)
theorem dX31_behind_41 : decode cX31_behind 41 = .ok (.invokevirtual 90, 3) := dc_182 (a := 0) (b := 90) (n := 90) (by decide +kernel)
theorem dX31_behind_44 : decode cX31_behind 44 = .ok (.iadd, 1) := dc_96 (by decide +kernel)
theorem dX31_behind_45 : decode cX31_behind 45 = .ok (.ireturn, 1) := dc_172 (by decide +kernel)
def fX31_behind_b45 (s0 : Int32) (h : eH) : Option (Int32 × eH) :=
  some (s0, h)
theorem pX31_behind_b45 {w : eW} {d : Nat} (hd : 4 ≤ d + 1) {s0 : Int32} {h : eH} {q} (hf : fX31_behind_b45 s0 h = some q) : wp w (d + 1) YX31_behind 45 [none, none] [.int s0] h (e_is (e_rn c_I q)) := by
  unfold fX31_behind_b45 at hf
  cases hf
  exact w_iret dX31_behind_45 rfl rfl rfl
def fX31_behind (this : Nat) (p0 : Int32) (h : eH) : Option (Int32 × eH) :=
  (g_A 30 h this 3).bind fun a1 =>
  (r_I 100 h a1 p0).bind fun x3 =>
  if ¬ x3 = (-1 : Int32) then
    (g_A 30 h this 5).bind fun a6 =>
    (r_I 100 h a6 p0).bind fun x8 =>
    (g_A 30 h this 0).bind fun a10 =>
    (g_A 30 h this 3).bind fun a12 =>
    (r_I 100 h a12 p0).bind fun x14 =>
    (g_A 30 h this 4).bind fun a16 =>
    (r_I 100 h a16 p0).bind fun x18 =>
    (k_ok 4 h a10).bind fun _ =>
    (fX5_width a10 x14 x18 h).bind fun q21 =>
    fX31_behind_b45 (x8 + q21.1) q21.2
  else
    (g_A 30 h this 5).bind fun a22 =>
    (r_I 100 h a22 p0).bind fun x24 =>
    fX31_behind_b45 x24 h
theorem pX31_behind {w : eW} {d : Nat} (hd : 4 ≤ d) {this : Nat} {p0 : Int32} {h : eH} {q} (hf : fX31_behind this p0 h = some q) : wm w d YX31_behind [.ref this, .int p0] h (e_is (e_rn c_I q)) := by
  obtain ⟨d, rfl⟩ : ∃ e, d = e + 1 := ⟨d - 1, by omega⟩
  show wp w (d + 1) YX31_behind 0 [some (.ref this), some (.int p0)] [] h _
  unfold fX31_behind at hf
  refine w_aload_n dX31_behind_0 rfl rfl ?_
  obtain ⟨a1, b2, hf⟩ := Option.bind_eq_some_iff.mp hf
  refine GX31_25 b2 dX31_behind_1 rfl ?_
  refine w_iload_n dX31_behind_4 rfl rfl ?_
  obtain ⟨x3, b4, hf⟩ := Option.bind_eq_some_iff.mp hf
  refine x_rI b4 dX31_behind_5 ?_
  refine w_iconst dX31_behind_6 (v := -1) (by decide) ?_
  refine w_icmp_ne 19 dX31_behind_7 (by decide) (fun c5 => ?_) (fun c5 => ?_)
  · replace hf := (if_pos (show ¬ x3 = (-1 : Int32) from c5)).symm.trans hf
    refine w_aload_n dX31_behind_19 rfl rfl ?_
    obtain ⟨a6, b7, hf⟩ := Option.bind_eq_some_iff.mp hf
    refine GX31_31 b7 dX31_behind_20 rfl ?_
    refine w_iload_n dX31_behind_23 rfl rfl ?_
    obtain ⟨x8, b9, hf⟩ := Option.bind_eq_some_iff.mp hf
    refine x_rI b9 dX31_behind_24 ?_
    refine w_aload_n dX31_behind_25 rfl rfl ?_
    obtain ⟨a10, b11, hf⟩ := Option.bind_eq_some_iff.mp hf
    refine GX31_56 b11 dX31_behind_26 rfl ?_
    refine w_aload_n dX31_behind_29 rfl rfl ?_
    obtain ⟨a12, b13, hf⟩ := Option.bind_eq_some_iff.mp hf
    refine GX31_25 b13 dX31_behind_30 rfl ?_
    refine w_iload_n dX31_behind_33 rfl rfl ?_
    obtain ⟨x14, b15, hf⟩ := Option.bind_eq_some_iff.mp hf
    refine x_rI b15 dX31_behind_34 ?_
    refine w_aload_n dX31_behind_35 rfl rfl ?_
    obtain ⟨a16, b17, hf⟩ := Option.bind_eq_some_iff.mp hf
    refine GX31_28 b17 dX31_behind_36 rfl ?_
    refine w_iload_n dX31_behind_39 rfl rfl ?_
    obtain ⟨x18, b19, hf⟩ := Option.bind_eq_some_iff.mp hf
    refine x_rI b19 dX31_behind_40 ?_
    obtain ⟨_, b20, hf⟩ := Option.bind_eq_some_iff.mp hf
    refine x_cnI hf (e_stV (Yc := YX5_width) (ci := 4) (av := [.int x14, .int x18]) (st := [.int x8]) dX31_behind_41 q3403 mX5_width rfl (k_ok_some b20).1 (k_ok_some b20).2) mX5_width.2.2.1 mX5_width.2.2.2.2.1 (Nat.le_of_ble_eq_true rfl) (Nat.le_of_ble_eq_true rfl) (fun q hq => pX5_width (by omega) hq) (fun q21 hf => ?_)
    refine w_iadd dX31_behind_44 ?_
    exact (pX31_behind_b45 hd hf).to trivial
  · replace hf := (if_neg (show ¬ (¬ x3 = (-1 : Int32)) from (fun z => z c5))).symm.trans hf
    refine w_aload_n dX31_behind_10 rfl rfl ?_
    obtain ⟨a22, b23, hf⟩ := Option.bind_eq_some_iff.mp hf
    refine GX31_31 b23 dX31_behind_11 rfl ?_
    refine w_iload_n dX31_behind_14 rfl rfl ?_
    obtain ⟨x24, b25, hf⟩ := Option.bind_eq_some_iff.mp hf
    refine x_rI b25 dX31_behind_15 ?_
    refine w_goto 45 dX31_behind_16 (by decide) ?_
    exact (pX31_behind_b45 hd hf).to trivial
abbrev cX33_seek : ByteArray := prog_16_method_4_code
def yX33_seek : MethodName := ⟨RX33, "seek", "(I)I"⟩
def YX33_seek : eY := (yX33_seek, cX33_seek, 3, (Option.some FieldType.int), [])
theorem mX33_seek : e_mv YX33_seek RX33 1 := ⟨q3410, qs137, q3411, by decide, by decide +kernel, (e_sig (by decide +kernel))⟩
theorem dX33_seek_0 : decode cX33_seek 0 = .ok (.iload_n 1, 1) := dc_27 (by decide +kernel)
theorem dX33_seek_1 : decode cX33_seek 1 = .ok (.ldc 40, 2) := dc_18 (a := 40) (by decide +kernel)
theorem dX33_seek_3 : decode cX33_seek 3 = .ok (.imul, 1) := dc_104 (by decide +kernel)
theorem dX33_seek_4 : decode cX33_seek 4 = .ok (.bipush 19, 2) := dc_16 (a := 19) (v := 19) (by decide +kernel)
theorem dX33_seek_6 : decode cX33_seek 6 = .ok (.iushr, 1) := dc_124 (by decide +kernel)
theorem dX33_seek_7 : decode cX33_seek 7 = .ok (.sipush 8191, 3) := dc_17 (a := 31) (b := 255) (v := 8191) (by decide +kernel)
theorem dX33_seek_10 : decode cX33_seek 10 = .ok (.iand, 1) := dc_126 (by decide +kernel)
theorem dX33_seek_11 : decode cX33_seek 11 = .ok (.istore_n 2, 1) := dc_61 (by decide +kernel)
theorem dX33_seek_12 : decode cX33_seek 12 = .ok (.aload_n 0, 1) := dc_42 (by decide +kernel)
theorem dX33_seek_13 : decode cX33_seek 13 = .ok (.getfield 18, 3) := dc_180 (a := 0) (b := 18) (n := 18) (by decide +kernel)
theorem dX33_seek_16 : decode cX33_seek 16 = .ok (.iload_n 2, 1) := dc_28 (by decide +kernel)
theorem dX33_seek_17 : decode cX33_seek 17 = .ok (.iaload, 1) := dc_46 (by decide +kernel)
theorem dX33_seek_18 : decode cX33_seek 18 = .ok (.ifCond .eq 31, 3) := dc_153 (a := 0) (b := 31) (v := 31) (by decide +kernel)
theorem dX33_seek_21 : decode cX33_seek 21 = .ok (.aload_n 0, 1) := dc_42 (by decide +kernel)
theorem dX33_seek_22 : decode cX33_seek 22 = .ok (.getfield 9, 3) := dc_180 (a := 0) (b := 9) (n := 9) (by decide +kernel)
theorem dX33_seek_25 : decode cX33_seek 25 = .ok (.aload_n 0, 1) := dc_42 (by decide +kernel)
theorem dX33_seek_26 : decode cX33_seek 26 = .ok (.getfield 18, 3) := dc_180 (a := 0) (b := 18) (n := 18) (by decide +kernel)
theorem dX33_seek_29 : decode cX33_seek 29 = .ok (.iload_n 2, 1) := dc_28 (by decide +kernel)
theorem dX33_seek_30 : decode cX33_seek 30 = .ok (.iaload, 1) := dc_46 (by decide +kernel)
theorem dX33_seek_31 : decode cX33_seek 31 = .ok (.iconst 1, 1) := dc_4 (by decide +kernel)
theorem dX33_seek_32 : decode cX33_seek 32 = .ok (.isub, 1) := dc_100 (by decide +kernel)
theorem dX33_seek_33 : decode cX33_seek 33 = .ok (.iaload, 1) := dc_46 (by decide +kernel)
theorem dX33_seek_34 : decode cX33_seek 34 = .ok (.iload_n 1, 1) := dc_27 (by decide +kernel)
theorem dX33_seek_35 : decode cX33_seek 35 = .ok (.if_icmp .eq 14, 3) := dc_159 (a := 0) (b := 14) (v := 14) (by decide +kernel)
theorem dX33_seek_38 : decode cX33_seek 38 = .ok (.iload_n 2, 1) := dc_28 (by decide +kernel)
theorem dX33_seek_39 : decode cX33_seek 39 = .ok (.iconst 1, 1) := dc_4 (by decide +kernel)
theorem dX33_seek_40 : decode cX33_seek 40 = .ok (.iadd, 1) := dc_96 (by decide +kernel)
theorem dX33_seek_41 : decode cX33_seek 41 = .ok (.sipush 8191, 3) := dc_17 (a := 31) (b := 255) (v := 8191) (by decide +kernel)
theorem dX33_seek_44 : decode cX33_seek 44 = .ok (.iand, 1) := dc_126 (by decide +kernel)
theorem dX33_seek_45 : decode cX33_seek 45 = .ok (.istore_n 2, 1) := dc_61 (by decide +kernel)
theorem dX33_seek_46 : decode cX33_seek 46 = .ok (.goto (-34), 3) := dc_167 (a := 255) (b := 222) (v := -34) (by decide +kernel)
theorem dX33_seek_49 : decode cX33_seek 49 = .ok (.iload_n 2, 1) := dc_28 (by decide +kernel)
theorem dX33_seek_50 : decode cX33_seek 50 = .ok (.ireturn, 1) := dc_172 (by decide +kernel)
theorem GX33_18 {w : eW} {d : Nat} {Y : eY} {pc : Nat} {ls : eL} {st : List Value} {h : eH} {Q : eO → eH → Prop} {a : Nat} {x : Nat} (hf : g_A 32 h a 8 = some x) (hd : decode Y.2.1 pc = .ok (.getfield 18, 3)) (hY : Y.1.cls = RX33) (kk : wp w d Y (pc + 3) ls (.ref x :: st) h Q) : wp w d Y pc ls (.ref a :: st) h Q := x_gA (ci := 32) (k := 8) hf hd rfl (by decide) (by rw [hY]; exact q1694) kk
def fX33_seek_b49 (N : Nat) (l2 : Int32) (h : eH) : Option (Int32 × eH) :=
  some (l2, h)
theorem pX33_seek_b49 {w : eW} {d : Nat} (hd : 0 ≤ d) {N : Nat} {l2 : Int32} {h : eH} {q} (hf : fX33_seek_b49 N l2 h = some q) : wp w d YX33_seek 49 [none, none, some (.int l2)] [] h (e_is (e_rn c_I q)) := by
  unfold fX33_seek_b49 at hf
  refine w_iload_n dX33_seek_49 rfl rfl ?_
  cases hf
  exact w_iret dX33_seek_50 rfl rfl rfl
def fX33_seek_b12 (N : Nat) : Nat → Nat → Int32 → Int32 → eH → Option (Int32 × eH)
  | 0, _, _, _, _ => none
  | n + 1, l0, l1, l2, h =>
    (g_A 32 h l0 8).bind fun a1 =>
    (r_I 100 h a1 l2).bind fun x3 =>
    if x3 = 0 then
      fX33_seek_b49 N l2 h
    else
      (g_A 32 h l0 2).bind fun a6 =>
      (g_A 32 h l0 8).bind fun a8 =>
      (r_I 100 h a8 l2).bind fun x10 =>
      (r_I 100 h a6 (x10 - (1 : Int32))).bind fun x12 =>
      if x12 = l1 then
        fX33_seek_b49 N l2 h
      else
        fX33_seek_b12 N n l0 l1 ((l2 + (1 : Int32)) &&& (8191 : Int32)) h
theorem pX33_seek_b12 {w : eW} {d : Nat} (hd : 0 ≤ d) {N : Nat} : ∀ (n : Nat) l0 l1 l2 h q, fX33_seek_b12 N n l0 l1 l2 h = some q → wp w d YX33_seek 12 [some (.ref l0), some (.int l1), some (.int l2)] [] h (e_is (e_rn c_I q)) := by
  intro n
  induction n with
  | zero => intro l0 l1 l2 h q hf; simp [fX33_seek_b12] at hf
  | succ n ih =>
    intro l0 l1 l2 h q hf
    rw [fX33_seek_b12] at hf
    refine w_aload_n dX33_seek_12 rfl rfl ?_
    obtain ⟨a1, b2, hf⟩ := Option.bind_eq_some_iff.mp hf
    refine GX33_18 b2 dX33_seek_13 rfl ?_
    refine w_iload_n dX33_seek_16 rfl rfl ?_
    obtain ⟨x3, b4, hf⟩ := Option.bind_eq_some_iff.mp hf
    refine x_rI b4 dX33_seek_17 ?_
    refine w_if_eq 49 dX33_seek_18 (by decide) (fun c5 => ?_) (fun c5 => ?_)
    · replace hf := (if_pos (show x3 = 0 from c5)).symm.trans hf
      exact (pX33_seek_b49 hd hf).to ⟨rfl, trivial⟩
    · replace hf := (if_neg (show ¬ (x3 = 0) from c5)).symm.trans hf
      refine w_aload_n dX33_seek_21 rfl rfl ?_
      obtain ⟨a6, b7, hf⟩ := Option.bind_eq_some_iff.mp hf
      refine GX33_9 b7 dX33_seek_22 rfl ?_
      refine w_aload_n dX33_seek_25 rfl rfl ?_
      obtain ⟨a8, b9, hf⟩ := Option.bind_eq_some_iff.mp hf
      refine GX33_18 b9 dX33_seek_26 rfl ?_
      refine w_iload_n dX33_seek_29 rfl rfl ?_
      obtain ⟨x10, b11, hf⟩ := Option.bind_eq_some_iff.mp hf
      refine x_rI b11 dX33_seek_30 ?_
      refine w_iconst dX33_seek_31 (v := 1) (by decide) ?_
      refine w_isub dX33_seek_32 ?_
      obtain ⟨x12, b13, hf⟩ := Option.bind_eq_some_iff.mp hf
      refine x_rI b13 dX33_seek_33 ?_
      refine w_iload_n dX33_seek_34 rfl rfl ?_
      refine w_icmp_eq 49 dX33_seek_35 (by decide) (fun c14 => ?_) (fun c14 => ?_)
      · replace hf := (if_pos (show x12 = l1 from c14)).symm.trans hf
        exact (pX33_seek_b49 hd hf).to ⟨rfl, trivial⟩
      · replace hf := (if_neg (show ¬ (x12 = l1) from c14)).symm.trans hf
        refine w_iload_n dX33_seek_38 rfl rfl ?_
        refine w_iconst dX33_seek_39 (v := 1) (by decide) ?_
        refine w_iadd dX33_seek_40 ?_
        refine w_sipush dX33_seek_41 (v := 8191) (by decide) ?_
        refine w_iand dX33_seek_44 ?_
        refine w_istore_n dX33_seek_45 rfl (by decide) (ls' := [some (.ref l0), some (.int l1), some (.int ((l2 + (1 : Int32)) &&& (8191 : Int32)))]) rfl ?_
        refine w_goto 12 dX33_seek_46 (by decide) ?_
        exact (ih _ _ _ _ _ hf).to ⟨rfl, rfl, rfl, trivial⟩
def fX33_seek (N : Nat) (this : Nat) (p0 : Int32) (h : eH) : Option (Int32 × eH) :=
  fX33_seek_b12 N N this p0 ((((p0 * (-1640531535 : Int32))).toUInt32 >>> (((19 : Int32)).toUInt32 &&& Int32.toUInt32 31)).toInt32 &&& (8191 : Int32)) h
theorem pX33_seek {w : eW} {d : Nat} (hd : 0 ≤ d) {N : Nat} {this : Nat} {p0 : Int32} {h : eH} {q} (hf : fX33_seek N this p0 h = some q) : wm w d YX33_seek [.ref this, .int p0] h (e_is (e_rn c_I q)) := by
  show wp w d YX33_seek 0 [some (.ref this), some (.int p0), none] [] h _
  unfold fX33_seek at hf
  refine w_iload_n dX33_seek_0 rfl rfl ?_
  refine w_ldc dX33_seek_1 q3412 ?_
  refine w_imul dX33_seek_3 ?_
  refine w_bipush dX33_seek_4 (v := 19) (by decide) ?_
  refine w_iushr dX33_seek_6 ?_
  refine w_sipush dX33_seek_7 (v := 8191) (by decide) ?_
  refine w_iand dX33_seek_10 ?_
  refine w_istore_n dX33_seek_11 rfl (by decide) (ls' := [some (.ref this), some (.int p0), some (.int ((((p0 * (-1640531535 : Int32))).toUInt32 >>> (((19 : Int32)).toUInt32 &&& Int32.toUInt32 31)).toInt32 &&& (8191 : Int32)))]) rfl ?_
  exact (pX33_seek_b12 hd N _ _ _ _ _ hf).to ⟨rfl, rfl, rfl, trivial⟩
abbrev cX33_settle : ByteArray := prog_16_method_5_code
def yX33_settle : MethodName := ⟨RX33, "settle", "()V"⟩
def YX33_settle : eY := (yX33_settle, cX33_settle, 3, none, [])
theorem mX33_settle : e_mv YX33_settle RX33 0 := ⟨q3405, q3406, q3407, by decide, by decide +kernel, (e_sig (by decide +kernel))⟩
theorem dX33_settle_0 : decode cX33_settle 0 = .ok (.iconst 0, 1) := dc_3 (by decide +kernel)
theorem dX33_settle_1 : decode cX33_settle 1 = .ok (.istore_n 1, 1) := dc_60 (by decide +kernel)
theorem dX33_settle_2 : decode cX33_settle 2 = .ok (.iload_n 1, 1) := dc_27 (by decide +kernel)
theorem dX33_settle_3 : decode cX33_settle 3 = .ok (.sipush 8192, 3) := dc_17 (a := 32) (b := 0) (v := 8192) (by decide +kernel)
theorem dX33_settle_6 : decode cX33_settle 6 = .ok (.if_icmp .ge 16, 3) := dc_162 (a := 0) (b := 16) (v := 16) (by decide +kernel)
theorem dX33_settle_9 : decode cX33_settle 9 = .ok (.aload_n 0, 1) := dc_42 (by decide +kernel)
theorem dX33_settle_10 : decode cX33_settle 10 = .ok (.getfield 18, 3) := dc_180 (a := 0) (b := 18) (n := 18) (by decide +kernel)
theorem dX33_settle_13 : decode cX33_settle 13 = .ok (.iload_n 1, 1) := dc_27 (by decide +kernel)
theorem dX33_settle_14 : decode cX33_settle 14 = .ok (.iconst 0, 1) := dc_3 (by decide +kernel)
theorem dX33_settle_15 : decode cX33_settle 15 = .ok (.iastore, 1) := dc_79 (by decide +kernel)
theorem dX33_settle_16 : decode cX33_settle 16 = .ok (.iinc 1 1, 3) := dc_132 (a := 1) (b := 1) (v := 1) (by decide +kernel)
theorem dX33_settle_19 : decode cX33_settle 19 = .ok (.goto (-17), 3) := dc_167 (a := 255) (b := 239) (v := -17) (by decide +kernel)
theorem dX33_settle_22 : decode cX33_settle 22 = .ok (.aload_n 0, 1) := dc_42 (by decide +kernel)
theorem dX33_settle_23 : decode cX33_settle 23 = .ok (.getfield 28, 3) := dc_180 (a := 0) (b := 28) (n := 28) (by decide +kernel)
theorem dX33_settle_26 : decode cX33_settle 26 = .ok (.iconst 1, 1) := dc_4 (by decide +kernel)
theorem dX33_settle_27 : decode cX33_settle 27 = .ok (.isub, 1) := dc_100 (by decide +kernel)
theorem dX33_settle_28 : decode cX33_settle 28 = .ok (.istore_n 1, 1) := dc_60 (by decide +kernel)
theorem dX33_settle_29 : decode cX33_settle 29 = .ok (.iload_n 1, 1) := dc_27 (by decide +kernel)
theorem dX33_settle_30 : decode cX33_settle 30 = .ok (.ifCond .lt 52, 3) := dc_155 (a := 0) (b := 52) (v := 52) (by decide +kernel)
theorem dX33_settle_33 : decode cX33_settle 33 = .ok (.aload_n 0, 1) := dc_42 (by decide +kernel)
theorem dX33_settle_34 : decode cX33_settle 34 = .ok (.aload_n 0, 1) := dc_42 (by decide +kernel)
theorem dX33_settle_35 : decode cX33_settle 35 = .ok (.getfield 9, 3) := dc_180 (a := 0) (b := 9) (n := 9) (by decide +kernel)
theorem dX33_settle_38 : decode cX33_settle 38 = .ok (.iload_n 1, 1) := dc_27 (by decide +kernel)
theorem dX33_settle_39 : decode cX33_settle 39 = .ok (.iaload, 1) := dc_46 (by decide +kernel)
theorem dX33_settle_40 : decode cX33_settle 40 = .ok (.invokevirtual 41, 3) := dc_182 (a := 0) (b := 41) (n := 41) (by decide +kernel)
theorem dX33_settle_43 : decode cX33_settle 43 = .ok (.istore_n 2, 1) := dc_61 (by decide +kernel)
theorem dX33_settle_44 : decode cX33_settle 44 = .ok (.aload_n 0, 1) := dc_42 (by decide +kernel)
theorem dX33_settle_45 : decode cX33_settle 45 = .ok (.getfield 18, 3) := dc_180 (a := 0) (b := 18) (n := 18) (by decide +kernel)
theorem dX33_settle_48 : decode cX33_settle 48 = .ok (.iload_n 2, 1) := dc_28 (by decide +kernel)
theorem dX33_settle_49 : decode cX33_settle 49 = .ok (.iaload, 1) := dc_46 (by decide +kernel)
theorem dX33_settle_50 : decode cX33_settle 50 = .ok (.ifCond .ne 12, 3) := dc_154 (a := 0) (b := 12) (v := 12) (by decide +kernel)
theorem dX33_settle_53 : decode cX33_settle 53 = .ok (.aload_n 0, 1) := dc_42 (by decide +kernel)
theorem dX33_settle_54 : decode cX33_settle 54 = .ok (.getfield 18, 3) := dc_180 (a := 0) (b := 18) (n := 18) (by decide +kernel)
theorem dX33_settle_57 : decode cX33_settle 57 = .ok (.iload_n 2, 1) := dc_28 (by decide +kernel)
theorem dX33_settle_58 : decode cX33_settle 58 = .ok (.iload_n 1, 1) := dc_27 (by decide +kernel)
theorem dX33_settle_59 : decode cX33_settle 59 = .ok (.iconst 1, 1) := dc_4 (by decide +kernel)
theorem dX33_settle_60 : decode cX33_settle 60 = .ok (.iadd, 1) := dc_96 (by decide +kernel)
theorem dX33_settle_61 : decode cX33_settle 61 = .ok (.iastore, 1) := dc_79 (by decide +kernel)
theorem dX33_settle_62 : decode cX33_settle 62 = .ok (.aload_n 0, 1) := dc_42 (by decide +kernel)
theorem dX33_settle_63 : decode cX33_settle 63 = .ok (.getfield 15, 3) := dc_180 (a := 0) (b := 15) (n := 15) (by decide +kernel)
theorem dX33_settle_66 : decode cX33_settle 66 = .ok (.iload_n 1, 1) := dc_27 (by decide +kernel)
theorem dX33_settle_67 : decode cX33_settle 67 = .ok (.aload_n 0, 1) := dc_42 (by decide +kernel)
theorem dX33_settle_68 : decode cX33_settle 68 = .ok (.getfield 18, 3) := dc_180 (a := 0) (b := 18) (n := 18) (by decide +kernel)
theorem dX33_settle_71 : decode cX33_settle 71 = .ok (.iload_n 2, 1) := dc_28 (by decide +kernel)
theorem dX33_settle_72 : decode cX33_settle 72 = .ok (.iaload, 1) := dc_46 (by decide +kernel)
theorem dX33_settle_73 : decode cX33_settle 73 = .ok (.iconst 1, 1) := dc_4 (by decide +kernel)
theorem dX33_settle_74 : decode cX33_settle 74 = .ok (.isub, 1) := dc_100 (by decide +kernel)
theorem dX33_settle_75 : decode cX33_settle 75 = .ok (.iastore, 1) := dc_79 (by decide +kernel)
theorem dX33_settle_76 : decode cX33_settle 76 = .ok (.iinc 1 (-1), 3) := dc_132 (a := 1) (b := 255) (v := -1) (by decide +kernel)
theorem dX33_settle_79 : decode cX33_settle 79 = .ok (.goto (-50), 3) := dc_167 (a := 255) (b := 206) (v := -50) (by decide +kernel)
theorem dX33_settle_82 : decode cX33_settle 82 = .ok (.return_, 1) := dc_177 (by decide +kernel)
theorem GX33_15 {w : eW} {d : Nat} {Y : eY} {pc : Nat} {ls : eL} {st : List Value} {h : eH} {Q : eO → eH → Prop} {a : Nat} {x : Nat} (hf : g_A 32 h a 3 = some x) (hd : decode Y.2.1 pc = .ok (.getfield 15, 3)) (hY : Y.1.cls = RX33) (kk : wp w d Y (pc + 3) ls (.ref x :: st) h Q) : wp w d Y pc ls (.ref a :: st) h Q := x_gA (ci := 32) (k := 3) hf hd rfl (by decide) (by rw [hY]; exact q1689) kk
def fX33_settle_b62 (N : Nat) (k29 : Nat → Int32 → eH → Option (Unit × eH)) (l0 : Nat) (l1 : Int32) (l2 : Int32) (h : eH) : Option (Unit × eH) :=
  (g_A 32 h l0 3).bind fun a1 =>
  (g_A 32 h l0 8).bind fun a3 =>
  (r_I 100 h a3 l2).bind fun x5 =>
  (q_V 100 h a1 l1 (.int (x5 - (1 : Int32)))).bind fun h7 =>
  k29 l0 (l1 + (-1 : Int32)) h7
theorem pX33_settle_b62 {w : eW} {d : Nat} (hd : 1 ≤ d + 1) {N : Nat} {k29 : Nat → Int32 → eH → Option (Unit × eH)} (hk29 : ∀ l0 l1 h q, k29 l0 l1 h = some q → wp w (d + 1) YX33_settle 29 [some (.ref l0), some (.int l1), none] [] h (e_is (e_rn c_V q))) {l0 : Nat} {l1 : Int32} {l2 : Int32} {h : eH} {q} (hf : fX33_settle_b62 N k29 l0 l1 l2 h = some q) : wp w (d + 1) YX33_settle 62 [some (.ref l0), some (.int l1), some (.int l2)] [] h (e_is (e_rn c_V q)) := by
  unfold fX33_settle_b62 at hf
  refine w_aload_n dX33_settle_62 rfl rfl ?_
  obtain ⟨a1, b2, hf⟩ := Option.bind_eq_some_iff.mp hf
  refine GX33_15 b2 dX33_settle_63 rfl ?_
  refine w_iload_n dX33_settle_66 rfl rfl ?_
  refine w_aload_n dX33_settle_67 rfl rfl ?_
  obtain ⟨a3, b4, hf⟩ := Option.bind_eq_some_iff.mp hf
  refine GX33_18 b4 dX33_settle_68 rfl ?_
  refine w_iload_n dX33_settle_71 rfl rfl ?_
  obtain ⟨x5, b6, hf⟩ := Option.bind_eq_some_iff.mp hf
  refine x_rI b6 dX33_settle_72 ?_
  refine w_iconst dX33_settle_73 (v := 1) (by decide) ?_
  refine w_isub dX33_settle_74 ?_
  obtain ⟨h7, b8, hf⟩ := Option.bind_eq_some_iff.mp hf
  refine x_qI b8 dX33_settle_75 ?_
  refine w_iinc dX33_settle_76 (v := (l1 + (-1 : Int32))) rfl rfl (by decide) (ls' := [some (.ref l0), some (.int (l1 + (-1 : Int32))), some (.int l2)]) rfl ?_
  refine w_goto 29 dX33_settle_79 (by decide) ?_
  exact (hk29 _ _ _ _ hf).to ⟨rfl, rfl, trivial⟩
def fX33_settle_b29 (N : Nat) : Nat → Nat → Int32 → eH → Option (Unit × eH)
  | 0, _, _, _ => none
  | n + 1, l0, l1, h =>
    if l1 < 0 then
      some ((), h)
    else
      (g_A 32 h l0 2).bind fun a2 =>
      (r_I 100 h a2 l1).bind fun x4 =>
      (k_ok 32 h l0).bind fun _ =>
      (fX33_seek N l0 x4 h).bind fun q7 =>
      (g_A 32 q7.2 l0 8).bind fun a8 =>
      (r_I 100 q7.2 a8 q7.1).bind fun x10 =>
      if ¬ x10 = 0 then
        fX33_settle_b62 N (fX33_settle_b29 N n) l0 l1 q7.1 q7.2
      else
        (g_A 32 q7.2 l0 8).bind fun a13 =>
        (q_V 100 q7.2 a13 q7.1 (.int (l1 + (1 : Int32)))).bind fun h15 =>
        fX33_settle_b62 N (fX33_settle_b29 N n) l0 l1 q7.1 h15
theorem pX33_settle_b29 {w : eW} {d : Nat} (hd : 1 ≤ d + 1) {N : Nat} : ∀ (n : Nat) l0 l1 h q, fX33_settle_b29 N n l0 l1 h = some q → wp w (d + 1) YX33_settle 29 [some (.ref l0), some (.int l1), none] [] h (e_is (e_rn c_V q)) := by
  intro n
  induction n with
  | zero => intro l0 l1 h q hf; simp [fX33_settle_b29] at hf
  | succ n ih =>
    intro l0 l1 h q hf
    rw [fX33_settle_b29] at hf
    refine w_iload_n dX33_settle_29 rfl rfl ?_
    refine w_if_lt 82 dX33_settle_30 (by decide) (fun c1 => ?_) (fun c1 => ?_)
    · replace hf := (if_pos (show l1 < 0 from c1)).symm.trans hf
      cases hf
      exact w_vret dX33_settle_82 rfl rfl
    · replace hf := (if_neg (show ¬ (l1 < 0) from c1)).symm.trans hf
      refine w_aload_n dX33_settle_33 rfl rfl ?_
      refine w_aload_n dX33_settle_34 rfl rfl ?_
      obtain ⟨a2, b3, hf⟩ := Option.bind_eq_some_iff.mp hf
      refine GX33_9 b3 dX33_settle_35 rfl ?_
      refine w_iload_n dX33_settle_38 rfl rfl ?_
      obtain ⟨x4, b5, hf⟩ := Option.bind_eq_some_iff.mp hf
      refine x_rI b5 dX33_settle_39 ?_
      obtain ⟨_, b6, hf⟩ := Option.bind_eq_some_iff.mp hf
      refine x_cnI hf (e_stV (Yc := YX33_seek) (ci := 32) (av := [.int x4]) (st := []) dX33_settle_40 q3408 mX33_seek rfl (k_ok_some b6).1 (k_ok_some b6).2) mX33_seek.2.2.1 mX33_seek.2.2.2.2.1 (Nat.le_of_ble_eq_true rfl) (Nat.le_of_ble_eq_true rfl) (fun q hq => pX33_seek (by omega) hq) (fun q7 hf => ?_)
      refine w_istore_n dX33_settle_43 rfl (by decide) (ls' := [some (.ref l0), some (.int l1), some (.int q7.1)]) rfl ?_
      refine w_aload_n dX33_settle_44 rfl rfl ?_
      obtain ⟨a8, b9, hf⟩ := Option.bind_eq_some_iff.mp hf
      refine GX33_18 b9 dX33_settle_45 rfl ?_
      refine w_iload_n dX33_settle_48 rfl rfl ?_
      obtain ⟨x10, b11, hf⟩ := Option.bind_eq_some_iff.mp hf
      refine x_rI b11 dX33_settle_49 ?_
      refine w_if_ne 62 dX33_settle_50 (by decide) (fun c12 => ?_) (fun c12 => ?_)
      · replace hf := (if_pos (show ¬ x10 = 0 from c12)).symm.trans hf
        exact (pX33_settle_b62 hd ih hf).to ⟨rfl, rfl, rfl, trivial⟩
      · replace hf := (if_neg (show ¬ (¬ x10 = 0) from (fun z => z c12))).symm.trans hf
        refine w_aload_n dX33_settle_53 rfl rfl ?_
        obtain ⟨a13, b14, hf⟩ := Option.bind_eq_some_iff.mp hf
        refine GX33_18 b14 dX33_settle_54 rfl ?_
        refine w_iload_n dX33_settle_57 rfl rfl ?_
        refine w_iload_n dX33_settle_58 rfl rfl ?_
        refine w_iconst dX33_settle_59 (v := 1) (by decide) ?_
        refine w_iadd dX33_settle_60 ?_
        obtain ⟨h15, b16, hf⟩ := Option.bind_eq_some_iff.mp hf
        refine x_qI b16 dX33_settle_61 ?_
        exact (pX33_settle_b62 hd ih hf).to ⟨rfl, rfl, rfl, trivial⟩
def fX33_settle_b2 (N : Nat) : Nat → Nat → Int32 → eH → Option (Unit × eH)
  | 0, _, _, _ => none
  | n + 1, l0, l1, h =>
    if (8192 : Int32) ≤ l1 then
      (g_I 32 h l0 4).bind fun x2 =>
      fX33_settle_b29 N N l0 (x2 - (1 : Int32)) h
    else
      (g_A 32 h l0 8).bind fun a4 =>
      (q_V 100 h a4 l1 (.int (0 : Int32))).bind fun h6 =>
      fX33_settle_b2 N n l0 (l1 + (1 : Int32)) h6
theorem pX33_settle_b2 {w : eW} {d : Nat} (hd : 1 ≤ d + 1) {N : Nat} : ∀ (n : Nat) l0 l1 h q, fX33_settle_b2 N n l0 l1 h = some q → wp w (d + 1) YX33_settle 2 [some (.ref l0), some (.int l1), none] [] h (e_is (e_rn c_V q)) := by
  intro n
  induction n with
  | zero => intro l0 l1 h q hf; simp [fX33_settle_b2] at hf
  | succ n ih =>
    intro l0 l1 h q hf
    rw [fX33_settle_b2] at hf
    refine w_iload_n dX33_settle_2 rfl rfl ?_
    refine w_sipush dX33_settle_3 (v := 8192) (by decide) ?_
    refine w_icmp_ge 22 dX33_settle_6 (by decide) (fun c1 => ?_) (fun c1 => ?_)
    · replace hf := (if_pos (show (8192 : Int32) ≤ l1 from c1)).symm.trans hf
      refine w_aload_n dX33_settle_22 rfl rfl ?_
      obtain ⟨x2, b3, hf⟩ := Option.bind_eq_some_iff.mp hf
      refine GX33_28 b3 dX33_settle_23 rfl ?_
      refine w_iconst dX33_settle_26 (v := 1) (by decide) ?_
      refine w_isub dX33_settle_27 ?_
      refine w_istore_n dX33_settle_28 rfl (by decide) (ls' := [some (.ref l0), some (.int (x2 - (1 : Int32))), none]) rfl ?_
      exact (pX33_settle_b29 hd N _ _ _ _ hf).to ⟨rfl, rfl, trivial⟩
    · replace hf := (if_neg (show ¬ ((8192 : Int32) ≤ l1) from c1)).symm.trans hf
      refine w_aload_n dX33_settle_9 rfl rfl ?_
      obtain ⟨a4, b5, hf⟩ := Option.bind_eq_some_iff.mp hf
      refine GX33_18 b5 dX33_settle_10 rfl ?_
      refine w_iload_n dX33_settle_13 rfl rfl ?_
      refine w_iconst dX33_settle_14 (v := 0) (by decide) ?_
      obtain ⟨h6, b7, hf⟩ := Option.bind_eq_some_iff.mp hf
      refine x_qI b7 dX33_settle_15 ?_
      refine w_iinc dX33_settle_16 (v := (l1 + (1 : Int32))) rfl rfl (by decide) (ls' := [some (.ref l0), some (.int (l1 + (1 : Int32))), none]) rfl ?_
      refine w_goto 2 dX33_settle_19 (by decide) ?_
      exact (ih _ _ _ _ hf).to ⟨rfl, rfl, trivial⟩
def fX33_settle (N : Nat) (this : Nat) (h : eH) : Option (Unit × eH) :=
  fX33_settle_b2 N N this (0 : Int32) h
theorem pX33_settle {w : eW} {d : Nat} (hd : 1 ≤ d) {N : Nat} {this : Nat} {h : eH} {q} (hf : fX33_settle N this h = some q) : wm w d YX33_settle [.ref this] h (e_is (e_rn c_V q)) := by
  obtain ⟨d, rfl⟩ : ∃ e, d = e + 1 := ⟨d - 1, by omega⟩
  show wp w (d + 1) YX33_settle 0 [some (.ref this), none, none] [] h _
  unfold fX33_settle at hf
  refine w_iconst dX33_settle_0 (v := 0) (by decide) ?_
  refine w_istore_n dX33_settle_1 rfl (by decide) (ls' := [some (.ref this), some (.int (0 : Int32)), none]) rfl ?_
  exact (pX33_settle_b2 hd N _ _ _ _ hf).to ⟨rfl, rfl, trivial⟩
abbrev cX31_gather : ByteArray := prog_35_method_5_code
def yX31_gather : MethodName := ⟨RX31, "gather", "()V"⟩
def YX31_gather : eY := (yX31_gather, cX31_gather, 4, none, [])
theorem mX31_gather : e_mv YX31_gather RX31 0 := ⟨q3389, qs135, q3390, by decide, by decide +kernel, (e_sig (by decide +kernel))⟩
theorem dX31_gather_0 : decode cX31_gather 0 = .ok (.aload_n 0, 1) := dc_42 (by decide +kernel)
theorem dX31_gather_1 : decode cX31_gather 1 = .ok (.getfield 45, 3) := dc_180 (a := 0) (b := 45) (n := 45) (by decide +kernel)
theorem dX31_gather_4 : decode cX31_gather 4 = .ok (.invokevirtual 94, 3) := dc_182 (a := 0) (b := 94) (n := 94) (by decide +kernel)
theorem dX31_gather_7 : decode cX31_gather 7 = .ok (.aload_n 0, 1) := dc_42 (by decide +kernel)
theorem dX31_gather_8 : decode cX31_gather 8 = .ok (.getfield 49, 3) := dc_180 (a := 0) (b := 49) (n := 49) (by decide +kernel)
theorem dX31_gather_11 : decode cX31_gather 11 = .ok (.invokevirtual 94, 3) := dc_182 (a := 0) (b := 94) (n := 94) (by decide +kernel)
theorem dX31_gather_14 : decode cX31_gather 14 = .ok (.iconst 0, 1) := dc_3 (by decide +kernel)
theorem dX31_gather_15 : decode cX31_gather 15 = .ok (.istore_n 1, 1) := dc_60 (by decide +kernel)
theorem dX31_gather_16 : decode cX31_gather 16 = .ok (.iconst 0, 1) := dc_3 (by decide +kernel)
theorem dX31_gather_17 : decode cX31_gather 17 = .ok (.istore_n 2, 1) := dc_61 (by decide +kernel)
theorem dX31_gather_18 : decode cX31_gather 18 = .ok (.iconst 0, 1) := dc_3 (by decide +kernel)
theorem dX31_gather_19 : decode cX31_gather 19 = .ok (.istore_n 3, 1) := dc_62 (by decide +kernel)
theorem dX31_gather_20 : decode cX31_gather 20 = .ok (.iload_n 3, 1) := dc_29 (by decide +kernel)
theorem dX31_gather_21 : decode cX31_gather 21 = .ok (.aload_n 0, 1) := dc_42 (by decide +kernel)
theorem dX31_gather_22 : decode cX31_gather 22 = .ok (.getfield 69, 3) := dc_180 (a := 0) (b := 69) (n := 69) (by decide +kernel)
theorem dX31_gather_25 : decode cX31_gather 25 = .ok (.if_icmp .ge 52, 3) := dc_162 (a := 0) (b := 52) (v := 52) (by decide +kernel)
theorem dX31_gather_28 : decode cX31_gather 28 = .ok (.aload_n 0, 1) := dc_42 (by decide +kernel)
theorem dX31_gather_29 : decode cX31_gather 29 = .ok (.getfield 49, 3) := dc_180 (a := 0) (b := 49) (n := 49) (by decide +kernel)
theorem dX31_gather_32 : decode cX31_gather 32 = .ok (.aload_n 0, 1) := dc_42 (by decide +kernel)
theorem dX31_gather_33 : decode cX31_gather 33 = .ok (.getfield 34, 3) := dc_180 (a := 0) (b := 34) (n := 34) (by decide +kernel)
theorem dX31_gather_36 : decode cX31_gather 36 = .ok (.iload_n 3, 1) := dc_29 (by decide +kernel)
theorem dX31_gather_37 : decode cX31_gather 37 = .ok (.iaload, 1) := dc_46 (by decide +kernel)
theorem dX31_gather_38 : decode cX31_gather 38 = .ok (.iload_n 2, 1) := dc_28 (by decide +kernel)
theorem dX31_gather_39 : decode cX31_gather 39 = .ok (.isub, 1) := dc_100 (by decide +kernel)
theorem dX31_gather_40 : decode cX31_gather 40 = .ok (.invokevirtual 95, 3) := dc_182 (a := 0) (b := 95) (n := 95) (by decide +kernel)
theorem dX31_gather_43 : decode cX31_gather 43 = .ok (.aload_n 0, 1) := dc_42 (by decide +kernel)
theorem dX31_gather_44 : decode cX31_gather 44 = .ok (.getfield 45, 3) := dc_180 (a := 0) (b := 45) (n := 45) (by decide +kernel)
theorem dX31_gather_47 : decode cX31_gather 47 = .ok (.aload_n 0, 1) := dc_42 (by decide +kernel)
theorem dX31_gather_48 : decode cX31_gather 48 = .ok (.getfield 31, 3) := dc_180 (a := 0) (b := 31) (n := 31) (by decide +kernel)
theorem dX31_gather_51 : decode cX31_gather 51 = .ok (.iload_n 3, 1) := dc_29 (by decide +kernel)
theorem dX31_gather_52 : decode cX31_gather 52 = .ok (.iaload, 1) := dc_46 (by decide +kernel)
theorem dX31_gather_53 : decode cX31_gather 53 = .ok (.iload_n 1, 1) := dc_27 (by decide +kernel)
theorem dX31_gather_54 : decode cX31_gather 54 = .ok (.isub, 1) := dc_100 (by decide +kernel)
theorem dX31_gather_55 : decode cX31_gather 55 = .ok (.invokevirtual 95, 3) := dc_182 (a := 0) (b := 95) (n := 95) (by decide +kernel)
theorem dX31_gather_58 : decode cX31_gather 58 = .ok (.aload_n 0, 1) := dc_42 (by decide +kernel)
theorem dX31_gather_59 : decode cX31_gather 59 = .ok (.getfield 34, 3) := dc_180 (a := 0) (b := 34) (n := 34) (by decide +kernel)
theorem dX31_gather_62 : decode cX31_gather 62 = .ok (.iload_n 3, 1) := dc_29 (by decide +kernel)
theorem dX31_gather_63 : decode cX31_gather 63 = .ok (.iaload, 1) := dc_46 (by decide +kernel)
theorem dX31_gather_64 : decode cX31_gather 64 = .ok (.istore_n 2, 1) := dc_61 (by decide +kernel)
theorem dX31_gather_65 : decode cX31_gather 65 = .ok (.aload_n 0, 1) := dc_42 (by decide +kernel)
theorem dX31_gather_66 : decode cX31_gather 66 = .ok (.iload_n 3, 1) := dc_29 (by decide +kernel)
theorem dX31_gather_67 : decode cX31_gather 67 = .ok (.invokevirtual 98, 3) := dc_182 (a := 0) (b := 98) (n := 98) (by decide +kernel)
theorem dX31_gather_70 : decode cX31_gather 70 = .ok (.istore_n 1, 1) := dc_60 (by decide +kernel)
theorem dX31_gather_71 : decode cX31_gather 71 = .ok (.iinc 3 1, 3) := dc_132 (a := 3) (b := 1) (v := 1) (by decide +kernel)
theorem dX31_gather_74 : decode cX31_gather 74 = .ok (.goto (-54), 3) := dc_167 (a := 255) (b := 202) (v := -54) (by decide +kernel)
theorem dX31_gather_77 : decode cX31_gather 77 = .ok (.aload_n 0, 1) := dc_42 (by decide +kernel)
theorem dX31_gather_78 : decode cX31_gather 78 = .ok (.getfield 45, 3) := dc_180 (a := 0) (b := 45) (n := 45) (by decide +kernel)
theorem dX31_gather_81 : decode cX31_gather 81 = .ok (.invokevirtual 102, 3) := dc_182 (a := 0) (b := 102) (n := 102) (by decide +kernel)
theorem dX31_gather_84 : decode cX31_gather 84 = .ok (.aload_n 0, 1) := dc_42 (by decide +kernel)
theorem dX31_gather_85 : decode cX31_gather 85 = .ok (.getfield 49, 3) := dc_180 (a := 0) (b := 49) (n := 49) (by decide +kernel)
theorem dX31_gather_88 : decode cX31_gather 88 = .ok (.invokevirtual 102, 3) := dc_182 (a := 0) (b := 102) (n := 102) (by decide +kernel)
theorem dX31_gather_91 : decode cX31_gather 91 = .ok (.return_, 1) := dc_177 (by decide +kernel)
theorem GX31_45 {w : eW} {d : Nat} {Y : eY} {pc : Nat} {ls : eL} {st : List Value} {h : eH} {Q : eO → eH → Prop} {a : Nat} {x : Nat} (hf : g_A 30 h a 9 = some x) (hd : decode Y.2.1 pc = .ok (.getfield 45, 3)) (hY : Y.1.cls = RX31) (kk : wp w d Y (pc + 3) ls (.ref x :: st) h Q) : wp w d Y pc ls (.ref a :: st) h Q := x_gA (ci := 30) (k := 9) hf hd rfl (by decide) (by rw [hY]; exact q1726) kk
theorem GX31_49 {w : eW} {d : Nat} {Y : eY} {pc : Nat} {ls : eL} {st : List Value} {h : eH} {Q : eO → eH → Prop} {a : Nat} {x : Nat} (hf : g_A 30 h a 10 = some x) (hd : decode Y.2.1 pc = .ok (.getfield 49, 3)) (hY : Y.1.cls = RX31) (kk : wp w d Y (pc + 3) ls (.ref x :: st) h Q) : wp w d Y pc ls (.ref a :: st) h Q := x_gA (ci := 30) (k := 10) hf hd rfl (by decide) (by rw [hY]; exact q1727) kk
def fX31_gather_b20 (N : Nat) : Nat → Nat → Int32 → Int32 → Int32 → eH → Option (Unit × eH)
  | 0, _, _, _, _, _ => none
  | n + 1, l0, l1, l2, l3, h =>
    (g_I 30 h l0 8).bind fun x1 =>
    if x1 ≤ l3 then
      (g_A 30 h l0 9).bind fun a4 =>
      (k_ok 32 h a4).bind fun _ =>
      (fX33_settle N a4 h).bind fun q7 =>
      (g_A 30 q7.2 l0 10).bind fun a8 =>
      (k_ok 32 q7.2 a8).bind fun _ =>
      (fX33_settle N a8 q7.2).bind fun q11 =>
      some ((), q11.2)
    else
      (g_A 30 h l0 10).bind fun a12 =>
      (g_A 30 h l0 6).bind fun a14 =>
      (r_I 100 h a14 l3).bind fun x16 =>
      (k_ok 32 h a12).bind fun _ =>
      (fX33_add a12 (x16 - l2) h).bind fun q19 =>
      (g_A 30 q19.2 l0 9).bind fun a20 =>
      (g_A 30 q19.2 l0 5).bind fun a22 =>
      (r_I 100 q19.2 a22 l3).bind fun x24 =>
      (k_ok 32 q19.2 a20).bind fun _ =>
      (fX33_add a20 (x24 - l1) q19.2).bind fun q27 =>
      (g_A 30 q27.2 l0 6).bind fun a28 =>
      (r_I 100 q27.2 a28 l3).bind fun x30 =>
      (k_ok 30 q27.2 l0).bind fun _ =>
      (fX31_behind l0 l3 q27.2).bind fun q33 =>
      fX31_gather_b20 N n l0 q33.1 x30 (l3 + (1 : Int32)) q33.2
theorem pX31_gather_b20 {w : eW} {d : Nat} (hd : 5 ≤ d + 1) {N : Nat} : ∀ (n : Nat) l0 l1 l2 l3 h q, fX31_gather_b20 N n l0 l1 l2 l3 h = some q → wp w (d + 1) YX31_gather 20 [some (.ref l0), some (.int l1), some (.int l2), some (.int l3)] [] h (e_is (e_rn c_V q)) := by
  intro n
  induction n with
  | zero => intro l0 l1 l2 l3 h q hf; simp [fX31_gather_b20] at hf
  | succ n ih =>
    intro l0 l1 l2 l3 h q hf
    rw [fX31_gather_b20] at hf
    refine w_iload_n dX31_gather_20 rfl rfl ?_
    refine w_aload_n dX31_gather_21 rfl rfl ?_
    obtain ⟨x1, b2, hf⟩ := Option.bind_eq_some_iff.mp hf
    refine GX31_69 b2 dX31_gather_22 rfl ?_
    refine w_icmp_ge 77 dX31_gather_25 (by decide) (fun c3 => ?_) (fun c3 => ?_)
    · replace hf := (if_pos (show x1 ≤ l3 from c3)).symm.trans hf
      refine w_aload_n dX31_gather_77 rfl rfl ?_
      obtain ⟨a4, b5, hf⟩ := Option.bind_eq_some_iff.mp hf
      refine GX31_45 b5 dX31_gather_78 rfl ?_
      obtain ⟨_, b6, hf⟩ := Option.bind_eq_some_iff.mp hf
      refine x_cnV hf (e_stV (Yc := YX33_settle) (ci := 32) (av := []) (st := []) dX31_gather_81 q3404 mX33_settle rfl (k_ok_some b6).1 (k_ok_some b6).2) mX33_settle.2.2.1 mX33_settle.2.2.2.2.1 (Nat.le_of_ble_eq_true rfl) (Nat.le_of_ble_eq_true rfl) (fun q hq => pX33_settle (by omega) hq) (fun q7 hf => ?_)
      refine w_aload_n dX31_gather_84 rfl rfl ?_
      obtain ⟨a8, b9, hf⟩ := Option.bind_eq_some_iff.mp hf
      refine GX31_49 b9 dX31_gather_85 rfl ?_
      obtain ⟨_, b10, hf⟩ := Option.bind_eq_some_iff.mp hf
      refine x_cnV hf (e_stV (Yc := YX33_settle) (ci := 32) (av := []) (st := []) dX31_gather_88 q3404 mX33_settle rfl (k_ok_some b10).1 (k_ok_some b10).2) mX33_settle.2.2.1 mX33_settle.2.2.2.2.1 (Nat.le_of_ble_eq_true rfl) (Nat.le_of_ble_eq_true rfl) (fun q hq => pX33_settle (by omega) hq) (fun q11 hf => ?_)
      cases hf
      exact w_vret dX31_gather_91 rfl rfl
    · replace hf := (if_neg (show ¬ (x1 ≤ l3) from c3)).symm.trans hf
      refine w_aload_n dX31_gather_28 rfl rfl ?_
      obtain ⟨a12, b13, hf⟩ := Option.bind_eq_some_iff.mp hf
      refine GX31_49 b13 dX31_gather_29 rfl ?_
      refine w_aload_n dX31_gather_32 rfl rfl ?_
      obtain ⟨a14, b15, hf⟩ := Option.bind_eq_some_iff.mp hf
      refine GX31_34 b15 dX31_gather_33 rfl ?_
      refine w_iload_n dX31_gather_36 rfl rfl ?_
      obtain ⟨x16, b17, hf⟩ := Option.bind_eq_some_iff.mp hf
      refine x_rI b17 dX31_gather_37 ?_
      refine w_iload_n dX31_gather_38 rfl rfl ?_
      refine w_isub dX31_gather_39 ?_
      obtain ⟨_, b18, hf⟩ := Option.bind_eq_some_iff.mp hf
      refine x_cnV hf (e_stV (Yc := YX33_add) (ci := 32) (av := [.int (x16 - l2)]) (st := []) dX31_gather_40 q3395 mX33_add rfl (k_ok_some b18).1 (k_ok_some b18).2) mX33_add.2.2.1 mX33_add.2.2.2.2.1 (Nat.le_of_ble_eq_true rfl) (Nat.le_of_ble_eq_true rfl) (fun q hq => pX33_add (by omega) hq) (fun q19 hf => ?_)
      refine w_aload_n dX31_gather_43 rfl rfl ?_
      obtain ⟨a20, b21, hf⟩ := Option.bind_eq_some_iff.mp hf
      refine GX31_45 b21 dX31_gather_44 rfl ?_
      refine w_aload_n dX31_gather_47 rfl rfl ?_
      obtain ⟨a22, b23, hf⟩ := Option.bind_eq_some_iff.mp hf
      refine GX31_31 b23 dX31_gather_48 rfl ?_
      refine w_iload_n dX31_gather_51 rfl rfl ?_
      obtain ⟨x24, b25, hf⟩ := Option.bind_eq_some_iff.mp hf
      refine x_rI b25 dX31_gather_52 ?_
      refine w_iload_n dX31_gather_53 rfl rfl ?_
      refine w_isub dX31_gather_54 ?_
      obtain ⟨_, b26, hf⟩ := Option.bind_eq_some_iff.mp hf
      refine x_cnV hf (e_stV (Yc := YX33_add) (ci := 32) (av := [.int (x24 - l1)]) (st := []) dX31_gather_55 q3395 mX33_add rfl (k_ok_some b26).1 (k_ok_some b26).2) mX33_add.2.2.1 mX33_add.2.2.2.2.1 (Nat.le_of_ble_eq_true rfl) (Nat.le_of_ble_eq_true rfl) (fun q hq => pX33_add (by omega) hq) (fun q27 hf => ?_)
      refine w_aload_n dX31_gather_58 rfl rfl ?_
      obtain ⟨a28, b29, hf⟩ := Option.bind_eq_some_iff.mp hf
      refine GX31_34 b29 dX31_gather_59 rfl ?_
      refine w_iload_n dX31_gather_62 rfl rfl ?_
      obtain ⟨x30, b31, hf⟩ := Option.bind_eq_some_iff.mp hf
      refine x_rI b31 dX31_gather_63 ?_
      refine w_istore_n dX31_gather_64 rfl (by decide) (ls' := [some (.ref l0), some (.int l1), some (.int x30), some (.int l3)]) rfl ?_
      refine w_aload_n dX31_gather_65 rfl rfl ?_
      refine w_iload_n dX31_gather_66 rfl rfl ?_
      obtain ⟨_, b32, hf⟩ := Option.bind_eq_some_iff.mp hf
      refine x_cnI hf (e_stV (Yc := YX31_behind) (ci := 30) (av := [.int l3]) (st := []) dX31_gather_67 q3399 mX31_behind rfl (k_ok_some b32).1 (k_ok_some b32).2) mX31_behind.2.2.1 mX31_behind.2.2.2.2.1 (Nat.le_of_ble_eq_true rfl) (Nat.le_of_ble_eq_true rfl) (fun q hq => pX31_behind (by omega) hq) (fun q33 hf => ?_)
      refine w_istore_n dX31_gather_70 rfl (by decide) (ls' := [some (.ref l0), some (.int q33.1), some (.int x30), some (.int l3)]) rfl ?_
      refine w_iinc dX31_gather_71 (v := (l3 + (1 : Int32))) rfl rfl (by decide) (ls' := [some (.ref l0), some (.int q33.1), some (.int x30), some (.int (l3 + (1 : Int32)))]) rfl ?_
      refine w_goto 20 dX31_gather_74 (by decide) ?_
      exact (ih _ _ _ _ _ _ hf).to ⟨rfl, rfl, rfl, rfl, trivial⟩
def fX31_gather (N : Nat) (this : Nat) (h : eH) : Option (Unit × eH) :=
  (g_A 30 h this 9).bind fun a1 =>
  (k_ok 32 h a1).bind fun _ =>
  (fX33_clear a1 h).bind fun q4 =>
  (g_A 30 q4.2 this 10).bind fun a5 =>
  (k_ok 32 q4.2 a5).bind fun _ =>
  (fX33_clear a5 q4.2).bind fun q8 =>
  fX31_gather_b20 N N this (0 : Int32) (0 : Int32) (0 : Int32) q8.2
theorem pX31_gather {w : eW} {d : Nat} (hd : 5 ≤ d) {N : Nat} {this : Nat} {h : eH} {q} (hf : fX31_gather N this h = some q) : wm w d YX31_gather [.ref this] h (e_is (e_rn c_V q)) := by
  obtain ⟨d, rfl⟩ : ∃ e, d = e + 1 := ⟨d - 1, by omega⟩
  show wp w (d + 1) YX31_gather 0 [some (.ref this), none, none, none] [] h _
  unfold fX31_gather at hf
  refine w_aload_n dX31_gather_0 rfl rfl ?_
  obtain ⟨a1, b2, hf⟩ := Option.bind_eq_some_iff.mp hf
  refine GX31_45 b2 dX31_gather_1 rfl ?_
  obtain ⟨_, b3, hf⟩ := Option.bind_eq_some_iff.mp hf
  refine x_cnV hf (e_stV (Yc := YX33_clear) (ci := 32) (av := []) (st := []) dX31_gather_4 q3391 mX33_clear rfl (k_ok_some b3).1 (k_ok_some b3).2) mX33_clear.2.2.1 mX33_clear.2.2.2.2.1 (Nat.le_of_ble_eq_true rfl) (Nat.le_of_ble_eq_true rfl) (fun q hq => pX33_clear (by omega) hq) (fun q4 hf => ?_)
  refine w_aload_n dX31_gather_7 rfl rfl ?_
  obtain ⟨a5, b6, hf⟩ := Option.bind_eq_some_iff.mp hf
  refine GX31_49 b6 dX31_gather_8 rfl ?_
  obtain ⟨_, b7, hf⟩ := Option.bind_eq_some_iff.mp hf
  refine x_cnV hf (e_stV (Yc := YX33_clear) (ci := 32) (av := []) (st := []) dX31_gather_11 q3391 mX33_clear rfl (k_ok_some b7).1 (k_ok_some b7).2) mX33_clear.2.2.1 mX33_clear.2.2.2.2.1 (Nat.le_of_ble_eq_true rfl) (Nat.le_of_ble_eq_true rfl) (fun q hq => pX33_clear (by omega) hq) (fun q8 hf => ?_)
  refine w_iconst dX31_gather_14 (v := 0) (by decide) ?_
  refine w_istore_n dX31_gather_15 rfl (by decide) (ls' := [some (.ref this), some (.int (0 : Int32)), none, none]) rfl ?_
  refine w_iconst dX31_gather_16 (v := 0) (by decide) ?_
  refine w_istore_n dX31_gather_17 rfl (by decide) (ls' := [some (.ref this), some (.int (0 : Int32)), some (.int (0 : Int32)), none]) rfl ?_
  refine w_iconst dX31_gather_18 (v := 0) (by decide) ?_
  refine w_istore_n dX31_gather_19 rfl (by decide) (ls' := [some (.ref this), some (.int (0 : Int32)), some (.int (0 : Int32)), some (.int (0 : Int32))]) rfl ?_
  exact (pX31_gather_b20 hd N _ _ _ _ _ _ hf).to ⟨rfl, rfl, rfl, rfl, trivial⟩
abbrev cX32_add : ByteArray := prog_5_method_2_code
def yX32_add : MethodName := ⟨RX32, "add", "(I)V"⟩
def YX32_add : eY := (yX32_add, cX32_add, 2, none, [])
theorem mX32_add : e_mv YX32_add RX32 1 := ⟨q3418, q3419, q3420, by decide, by decide +kernel, (e_sig (by decide +kernel))⟩
theorem dX32_add_0 : decode cX32_add 0 = .ok (.aload_n 0, 1) := dc_42 (by decide +kernel)
theorem dX32_add_1 : decode cX32_add 1 = .ok (.getfield 7, 3) := dc_180 (a := 0) (b := 7) (n := 7) (by decide +kernel)
theorem dX32_add_4 : decode cX32_add 4 = .ok (.aload_n 0, 1) := dc_42 (by decide +kernel)
theorem dX32_add_5 : decode cX32_add 5 = .ok (.dup, 1) := dc_89 (by decide +kernel)
theorem dX32_add_6 : decode cX32_add 6 = .ok (.getfield 13, 3) := dc_180 (a := 0) (b := 13) (n := 13) (by decide +kernel)
theorem dX32_add_9 : decode cX32_add 9 = .ok (.dup_x1, 1) := dc_90 (by decide +kernel)
theorem dX32_add_10 : decode cX32_add 10 = .ok (.iconst 1, 1) := dc_4 (by decide +kernel)
theorem dX32_add_11 : decode cX32_add 11 = .ok (.iadd, 1) := dc_96 (by decide +kernel)
theorem dX32_add_12 : decode cX32_add 12 = .ok (.putfield 13, 3) := dc_181 (a := 0) (b := 13) (n := 13) (by decide +kernel)
theorem dX32_add_15 : decode cX32_add 15 = .ok (.iload_n 1, 1) := dc_27 (by decide +kernel)
theorem dX32_add_16 : decode cX32_add 16 = .ok (.i2b, 1) := dc_145 (by decide +kernel)
theorem dX32_add_17 : decode cX32_add 17 = .ok (.bastore, 1) := dc_84 (by decide +kernel)
theorem dX32_add_18 : decode cX32_add 18 = .ok (.return_, 1) := dc_177 (by decide +kernel)
theorem GX32_13 {w : eW} {d : Nat} {Y : eY} {pc : Nat} {ls : eL} {st : List Value} {h : eH} {Q : eO → eH → Prop} {a : Nat} {x : Int32} (hf : g_I 31 h a 1 = some x) (hd : decode Y.2.1 pc = .ok (.getfield 13, 3)) (hY : Y.1.cls = RX32) (kk : wp w d Y (pc + 3) ls (.int x :: st) h Q) : wp w d Y pc ls (.ref a :: st) h Q := x_gI (ci := 31) (k := 1) hf hd rfl (by decide) (by rw [hY]; exact q1672) kk
theorem GX32_7 {w : eW} {d : Nat} {Y : eY} {pc : Nat} {ls : eL} {st : List Value} {h : eH} {Q : eO → eH → Prop} {a : Nat} {x : Nat} (hf : g_A 31 h a 0 = some x) (hd : decode Y.2.1 pc = .ok (.getfield 7, 3)) (hY : Y.1.cls = RX32) (kk : wp w d Y (pc + 3) ls (.ref x :: st) h Q) : wp w d Y pc ls (.ref a :: st) h Q := x_gA (ci := 31) (k := 0) hf hd rfl (by decide) (by rw [hY]; exact q1671) kk
theorem SX32_13 {w : eW} {d : Nat} {Y : eY} {pc : Nat} {ls : eL} {st : List Value} {h : eH} {Q : eO → eH → Prop} {a : Nat} {h' : eH} {x : Int32} (hf : p_V 31 h a 1 (.int x) = some h') (hd : decode Y.2.1 pc = .ok (.putfield 13, 3)) (hY : Y.1.cls = RX32) (kk : wp w d Y (pc + 3) ls st h' Q) : wp w d Y pc ls (.int x :: .ref a :: st) h Q := x_pI (ci := 31) (k := 1) hf hd rfl (by decide) (by rw [hY]; exact q1672) rfl rfl kk
def fX32_add (this : Nat) (p0 : Int32) (h : eH) : Option (Unit × eH) :=
  (g_A 31 h this 0).bind fun a1 =>
  (g_I 31 h this 1).bind fun x3 =>
  (p_V 31 h this 1 (.int (x3 + (1 : Int32)))).bind fun h5 =>
  (q_V 102 h5 a1 x3 (.int ((p0).toInt8.toInt32).toInt8.toInt32)).bind fun h7 =>
  some ((), h7)
theorem pX32_add {w : eW} {d : Nat} (hd : 0 ≤ d) {this : Nat} {p0 : Int32} {h : eH} {q} (hf : fX32_add this p0 h = some q) : wm w d YX32_add [.ref this, .int p0] h (e_is (e_rn c_V q)) := by
  show wp w d YX32_add 0 [some (.ref this), some (.int p0)] [] h _
  unfold fX32_add at hf
  refine w_aload_n dX32_add_0 rfl rfl ?_
  obtain ⟨a1, b2, hf⟩ := Option.bind_eq_some_iff.mp hf
  refine GX32_7 b2 dX32_add_1 rfl ?_
  refine w_aload_n dX32_add_4 rfl rfl ?_
  refine w_dup dX32_add_5 rfl ?_
  obtain ⟨x3, b4, hf⟩ := Option.bind_eq_some_iff.mp hf
  refine GX32_13 b4 dX32_add_6 rfl ?_
  refine w_dup_x1 dX32_add_9 rfl rfl ?_
  refine w_iconst dX32_add_10 (v := 1) (by decide) ?_
  refine w_iadd dX32_add_11 ?_
  obtain ⟨h5, b6, hf⟩ := Option.bind_eq_some_iff.mp hf
  refine SX32_13 b6 dX32_add_12 rfl ?_
  refine w_iload_n dX32_add_15 rfl rfl ?_
  refine w_i2b dX32_add_16 ?_
  obtain ⟨h7, b8, hf⟩ := Option.bind_eq_some_iff.mp hf
  refine x_qB b8 dX32_add_17 ?_
  cases hf
  exact w_vret dX32_add_18 rfl rfl
abbrev cX32_number : ByteArray := prog_5_method_3_code
def yX32_number : MethodName := ⟨RX32, "number", "(II)V"⟩
def YX32_number : eY := (yX32_number, cX32_number, 4, none, [])
theorem mX32_number : e_mv YX32_number RX32 2 := ⟨q3423, q3424, q3425, by decide, by decide +kernel, (e_sig (by decide +kernel))⟩
theorem dX32_number_0 : decode cX32_number 0 = .ok (.bipush 8, 2) := dc_16 (a := 8) (v := 8) (by decide +kernel)
theorem dX32_number_2 : decode cX32_number 2 = .ok (.iload_n 2, 1) := dc_28 (by decide +kernel)
theorem dX32_number_3 : decode cX32_number 3 = .ok (.iconst 1, 1) := dc_4 (by decide +kernel)
theorem dX32_number_4 : decode cX32_number 4 = .ok (.isub, 1) := dc_100 (by decide +kernel)
theorem dX32_number_5 : decode cX32_number 5 = .ok (.imul, 1) := dc_104 (by decide +kernel)
theorem dX32_number_6 : decode cX32_number 6 = .ok (.istore_n 3, 1) := dc_62 (by decide +kernel)
theorem dX32_number_7 : decode cX32_number 7 = .ok (.iload_n 3, 1) := dc_29 (by decide +kernel)
theorem dX32_number_8 : decode cX32_number 8 = .ok (.ifCond .lt 16, 3) := dc_155 (a := 0) (b := 16) (v := 16) (by decide +kernel)
theorem dX32_number_11 : decode cX32_number 11 = .ok (.aload_n 0, 1) := dc_42 (by decide +kernel)
theorem dX32_number_12 : decode cX32_number 12 = .ok (.iload_n 1, 1) := dc_27 (by decide +kernel)
theorem dX32_number_13 : decode cX32_number 13 = .ok (.iload_n 3, 1) := dc_29 (by decide +kernel)
theorem dX32_number_14 : decode cX32_number 14 = .ok (.ishr, 1) := dc_122 (by decide +kernel)
theorem dX32_number_15 : decode cX32_number 15 = .ok (.invokevirtual 17, 3) := dc_182 (a := 0) (b := 17) (n := 17) (by decide +kernel)
theorem dX32_number_18 : decode cX32_number 18 = .ok (.iinc 3 (-8), 3) := dc_132 (a := 3) (b := 248) (v := -8) (by decide +kernel)
theorem dX32_number_21 : decode cX32_number 21 = .ok (.goto (-14), 3) := dc_167 (a := 255) (b := 242) (v := -14) (by decide +kernel)
theorem dX32_number_24 : decode cX32_number 24 = .ok (.return_, 1) := dc_177 (by decide +kernel)
def fX32_number_b7 (N : Nat) : Nat → Nat → Int32 → Int32 → eH → Option (Unit × eH)
  | 0, _, _, _, _ => none
  | n + 1, l0, l1, l3, h =>
    if l3 < 0 then
      some ((), h)
    else
      (k_ok 31 h l0).bind fun _ =>
      (fX32_add l0 (l1 >>> (l3 &&& 31)) h).bind fun q3 =>
      fX32_number_b7 N n l0 l1 (l3 + (-8 : Int32)) q3.2
theorem pX32_number_b7 {w : eW} {d : Nat} (hd : 1 ≤ d + 1) {N : Nat} : ∀ (n : Nat) l0 l1 l3 h q, fX32_number_b7 N n l0 l1 l3 h = some q → wp w (d + 1) YX32_number 7 [some (.ref l0), some (.int l1), none, some (.int l3)] [] h (e_is (e_rn c_V q)) := by
  intro n
  induction n with
  | zero => intro l0 l1 l3 h q hf; simp [fX32_number_b7] at hf
  | succ n ih =>
    intro l0 l1 l3 h q hf
    rw [fX32_number_b7] at hf
    refine w_iload_n dX32_number_7 rfl rfl ?_
    refine w_if_lt 24 dX32_number_8 (by decide) (fun c1 => ?_) (fun c1 => ?_)
    · replace hf := (if_pos (show l3 < 0 from c1)).symm.trans hf
      cases hf
      exact w_vret dX32_number_24 rfl rfl
    · replace hf := (if_neg (show ¬ (l3 < 0) from c1)).symm.trans hf
      refine w_aload_n dX32_number_11 rfl rfl ?_
      refine w_iload_n dX32_number_12 rfl rfl ?_
      refine w_iload_n dX32_number_13 rfl rfl ?_
      refine w_ishr dX32_number_14 ?_
      obtain ⟨_, b2, hf⟩ := Option.bind_eq_some_iff.mp hf
      refine x_cnV hf (e_stV (Yc := YX32_add) (ci := 31) (av := [.int (l1 >>> (l3 &&& 31))]) (st := []) dX32_number_15 q3426 mX32_add rfl (k_ok_some b2).1 (k_ok_some b2).2) mX32_add.2.2.1 mX32_add.2.2.2.2.1 (Nat.le_of_ble_eq_true rfl) (Nat.le_of_ble_eq_true rfl) (fun q hq => pX32_add (by omega) hq) (fun q3 hf => ?_)
      refine w_iinc dX32_number_18 (v := (l3 + (-8 : Int32))) rfl rfl (by decide) (ls' := [some (.ref l0), some (.int l1), none, some (.int (l3 + (-8 : Int32)))]) rfl ?_
      refine w_goto 7 dX32_number_21 (by decide) ?_
      exact (ih _ _ _ _ _ hf).to ⟨rfl, rfl, rfl, trivial⟩
def fX32_number (N : Nat) (this : Nat) (p0 : Int32) (p1 : Int32) (h : eH) : Option (Unit × eH) :=
  fX32_number_b7 N N this p0 ((8 : Int32) * (p1 - (1 : Int32))) h
theorem pX32_number {w : eW} {d : Nat} (hd : 1 ≤ d) {N : Nat} {this : Nat} {p0 : Int32} {p1 : Int32} {h : eH} {q} (hf : fX32_number N this p0 p1 h = some q) : wm w d YX32_number [.ref this, .int p0, .int p1] h (e_is (e_rn c_V q)) := by
  obtain ⟨d, rfl⟩ : ∃ e, d = e + 1 := ⟨d - 1, by omega⟩
  show wp w (d + 1) YX32_number 0 [some (.ref this), some (.int p0), some (.int p1), none] [] h _
  unfold fX32_number at hf
  refine w_bipush dX32_number_0 (v := 8) (by decide) ?_
  refine w_iload_n dX32_number_2 rfl rfl ?_
  refine w_iconst dX32_number_3 (v := 1) (by decide) ?_
  refine w_isub dX32_number_4 ?_
  refine w_imul dX32_number_5 ?_
  refine w_istore_n dX32_number_6 rfl (by decide) (ls' := [some (.ref this), some (.int p0), some (.int p1), some (.int ((8 : Int32) * (p1 - (1 : Int32))))]) rfl ?_
  exact (pX32_number_b7 hd N _ _ _ _ _ hf).to ⟨rfl, rfl, rfl, trivial⟩
abbrev cX31_open : ByteArray := prog_35_method_6_code
def yX31_open : MethodName := ⟨RX31, "open", "()V"⟩
def YX31_open : eY := (yX31_open, cX31_open, 2, none, [])
theorem mX31_open : e_mv YX31_open RX31 0 := ⟨q3415, qs138, q3416, by decide, by decide +kernel, (e_sig (by decide +kernel))⟩
theorem dX31_open_0 : decode cX31_open 0 = .ok (.aload_n 0, 1) := dc_42 (by decide +kernel)
theorem dX31_open_1 : decode cX31_open 1 = .ok (.getfield 15, 3) := dc_180 (a := 0) (b := 15) (n := 15) (by decide +kernel)
theorem dX31_open_4 : decode cX31_open 4 = .ok (.getfield 66, 3) := dc_180 (a := 0) (b := 66) (n := 66) (by decide +kernel)
theorem dX31_open_7 : decode cX31_open 7 = .ok (.ifCond .le 4, 3) := dc_158 (a := 0) (b := 4) (v := 4) (by decide +kernel)
theorem dX31_open_10 : decode cX31_open 10 = .ok (.return_, 1) := dc_177 (by decide +kernel)
theorem dX31_open_11 : decode cX31_open 11 = .ok (.aload_n 0, 1) := dc_42 (by decide +kernel)
theorem dX31_open_12 : decode cX31_open 12 = .ok (.getfield 15, 3) := dc_180 (a := 0) (b := 15) (n := 15) (by decide +kernel)
theorem dX31_open_15 : decode cX31_open 15 = .ok (.sipush 247, 3) := dc_17 (a := 0) (b := 247) (v := 247) (by decide +kernel)
theorem dX31_open_18 : decode cX31_open 18 = .ok (.invokevirtual 105, 3) := dc_182 (a := 0) (b := 105) (n := 105) (by decide +kernel)
theorem dX31_open_21 : decode cX31_open 21 = .ok (.aload_n 0, 1) := dc_42 (by decide +kernel)
theorem dX31_open_22 : decode cX31_open 22 = .ok (.getfield 15, 3) := dc_180 (a := 0) (b := 15) (n := 15) (by decide +kernel)
theorem dX31_open_25 : decode cX31_open 25 = .ok (.iconst 2, 1) := dc_5 (by decide +kernel)
theorem dX31_open_26 : decode cX31_open 26 = .ok (.invokevirtual 105, 3) := dc_182 (a := 0) (b := 105) (n := 105) (by decide +kernel)
theorem dX31_open_29 : decode cX31_open 29 = .ok (.aload_n 0, 1) := dc_42 (by decide +kernel)
theorem dX31_open_30 : decode cX31_open 30 = .ok (.getfield 15, 3) := dc_180 (a := 0) (b := 15) (n := 15) (by decide +kernel)
theorem dX31_open_33 : decode cX31_open 33 = .ok (.ldc 106, 2) := dc_18 (a := 106) (by decide +kernel)
theorem dX31_open_35 : decode cX31_open 35 = .ok (.iconst 4, 1) := dc_7 (by decide +kernel)
theorem dX31_open_36 : decode cX31_open 36 = .ok (.invokevirtual 107, 3) := dc_182 (a := 0) (b := 107) (n := 107) (by decide +kernel)
theorem dX31_open_39 : decode cX31_open 39 = .ok (.aload_n 0, 1) := dc_42 (by decide +kernel)
theorem dX31_open_40 : decode cX31_open 40 = .ok (.getfield 15, 3) := dc_180 (a := 0) (b := 15) (n := 15) (by decide +kernel)
theorem dX31_open_43 : decode cX31_open 43 = .ok (.ldc 110, 2) := dc_18 (a := 110) (by decide +kernel)
theorem dX31_open_45 : decode cX31_open 45 = .ok (.iconst 4, 1) := dc_7 (by decide +kernel)
theorem dX31_open_46 : decode cX31_open 46 = .ok (.invokevirtual 107, 3) := dc_182 (a := 0) (b := 107) (n := 107) (by decide +kernel)
theorem dX31_open_49 : decode cX31_open 49 = .ok (.aload_n 0, 1) := dc_42 (by decide +kernel)
theorem dX31_open_50 : decode cX31_open 50 = .ok (.getfield 15, 3) := dc_180 (a := 0) (b := 15) (n := 15) (by decide +kernel)
theorem dX31_open_53 : decode cX31_open 53 = .ok (.sipush 1000, 3) := dc_17 (a := 3) (b := 232) (v := 1000) (by decide +kernel)
theorem dX31_open_56 : decode cX31_open 56 = .ok (.iconst 4, 1) := dc_7 (by decide +kernel)
theorem dX31_open_57 : decode cX31_open 57 = .ok (.invokevirtual 107, 3) := dc_182 (a := 0) (b := 107) (n := 107) (by decide +kernel)
theorem dX31_open_60 : decode cX31_open 60 = .ok (.aload_n 0, 1) := dc_42 (by decide +kernel)
theorem dX31_open_61 : decode cX31_open 61 = .ok (.getfield 15, 3) := dc_180 (a := 0) (b := 15) (n := 15) (by decide +kernel)
theorem dX31_open_64 : decode cX31_open 64 = .ok (.aload_n 0, 1) := dc_42 (by decide +kernel)
theorem dX31_open_65 : decode cX31_open 65 = .ok (.getfield 63, 3) := dc_180 (a := 0) (b := 63) (n := 63) (by decide +kernel)
theorem dX31_open_68 : decode cX31_open 68 = .ok (.invokevirtual 105, 3) := dc_182 (a := 0) (b := 105) (n := 105) (by decide +kernel)
theorem dX31_open_71 : decode cX31_open 71 = .ok (.iconst 0, 1) := dc_3 (by decide +kernel)
theorem dX31_open_72 : decode cX31_open 72 = .ok (.istore_n 1, 1) := dc_60 (by decide +kernel)
theorem dX31_open_73 : decode cX31_open 73 = .ok (.iload_n 1, 1) := dc_27 (by decide +kernel)
theorem dX31_open_74 : decode cX31_open 74 = .ok (.aload_n 0, 1) := dc_42 (by decide +kernel)
theorem dX31_open_75 : decode cX31_open 75 = .ok (.getfield 63, 3) := dc_180 (a := 0) (b := 63) (n := 63) (by decide +kernel)
theorem dX31_open_78 : decode cX31_open 78 = .ok (.if_icmp .ge 20, 3) := dc_162 (a := 0) (b := 20) (v := 20) (by decide +kernel)
theorem dX31_open_81 : decode cX31_open 81 = .ok (.aload_n 0, 1) := dc_42 (by decide +kernel)
theorem dX31_open_82 : decode cX31_open 82 = .ok (.getfield 15, 3) := dc_180 (a := 0) (b := 15) (n := 15) (by decide +kernel)
theorem dX31_open_85 : decode cX31_open 85 = .ok (.aload_n 0, 1) := dc_42 (by decide +kernel)
theorem dX31_open_86 : decode cX31_open 86 = .ok (.getfield 60, 3) := dc_180 (a := 0) (b := 60) (n := 60) (by decide +kernel)
theorem dX31_open_89 : decode cX31_open 89 = .ok (.invokevirtual 105, 3) := dc_182 (a := 0) (b := 105) (n := 105) (by decide +kernel)
theorem dX31_open_92 : decode cX31_open 92 = .ok (.iinc 1 1, 3) := dc_132 (a := 1) (b := 1) (v := 1) (by decide +kernel)
theorem dX31_open_95 : decode cX31_open 95 = .ok (.goto (-22), 3) := dc_167 (a := 255) (b := 234) (v := -22) (by decide +kernel)
theorem dX31_open_98 : decode cX31_open 98 = .ok (.return_, 1) := dc_177 (by decide +kernel)
theorem GX31_60 {w : eW} {d : Nat} {Y : eY} {pc : Nat} {ls : eL} {st : List Value} {h : eH} {Q : eO → eH → Prop} {a : Nat} {x : Int32} (hf : g_I 30 h a 11 = some x) (hd : decode Y.2.1 pc = .ok (.getfield 60, 3)) (hY : Y.1.cls = RX31) (kk : wp w d Y (pc + 3) ls (.int x :: st) h Q) : wp w d Y pc ls (.ref a :: st) h Q := x_gI (ci := 30) (k := 11) hf hd rfl (by decide) (by rw [hY]; exact q1728) kk
theorem GX31_63 {w : eW} {d : Nat} {Y : eY} {pc : Nat} {ls : eL} {st : List Value} {h : eH} {Q : eO → eH → Prop} {a : Nat} {x : Int32} (hf : g_I 30 h a 12 = some x) (hd : decode Y.2.1 pc = .ok (.getfield 63, 3)) (hY : Y.1.cls = RX31) (kk : wp w d Y (pc + 3) ls (.int x :: st) h Q) : wp w d Y pc ls (.ref a :: st) h Q := x_gI (ci := 30) (k := 12) hf hd rfl (by decide) (by rw [hY]; exact q1729) kk
theorem GX31_66 {w : eW} {d : Nat} {Y : eY} {pc : Nat} {ls : eL} {st : List Value} {h : eH} {Q : eO → eH → Prop} {a : Nat} {x : Int32} (hf : g_I 31 h a 1 = some x) (hd : decode Y.2.1 pc = .ok (.getfield 66, 3)) (hY : Y.1.cls = RX31) (kk : wp w d Y (pc + 3) ls (.int x :: st) h Q) : wp w d Y pc ls (.ref a :: st) h Q := x_gIN (ci := 31) (k := 1) hf hd rfl (by decide) (by rw [hY]; exact q1673) kk
def fX31_open_b73 (N : Nat) : Nat → Nat → Int32 → eH → Option (Unit × eH)
  | 0, _, _, _ => none
  | n + 1, l0, l1, h =>
    (g_I 30 h l0 12).bind fun x1 =>
    if x1 ≤ l1 then
      some ((), h)
    else
      (g_A 30 h l0 1).bind fun a4 =>
      (g_I 30 h l0 11).bind fun x6 =>
      (k_ok 31 h a4).bind fun _ =>
      (fX32_add a4 x6 h).bind fun q9 =>
      fX31_open_b73 N n l0 (l1 + (1 : Int32)) q9.2
theorem pX31_open_b73 {w : eW} {d : Nat} (hd : 2 ≤ d + 1) {N : Nat} : ∀ (n : Nat) l0 l1 h q, fX31_open_b73 N n l0 l1 h = some q → wp w (d + 1) YX31_open 73 [some (.ref l0), some (.int l1)] [] h (e_is (e_rn c_V q)) := by
  intro n
  induction n with
  | zero => intro l0 l1 h q hf; simp [fX31_open_b73] at hf
  | succ n ih =>
    intro l0 l1 h q hf
    rw [fX31_open_b73] at hf
    refine w_iload_n dX31_open_73 rfl rfl ?_
    refine w_aload_n dX31_open_74 rfl rfl ?_
    obtain ⟨x1, b2, hf⟩ := Option.bind_eq_some_iff.mp hf
    refine GX31_63 b2 dX31_open_75 rfl ?_
    refine w_icmp_ge 98 dX31_open_78 (by decide) (fun c3 => ?_) (fun c3 => ?_)
    · replace hf := (if_pos (show x1 ≤ l1 from c3)).symm.trans hf
      cases hf
      exact w_vret dX31_open_98 rfl rfl
    · replace hf := (if_neg (show ¬ (x1 ≤ l1) from c3)).symm.trans hf
      refine w_aload_n dX31_open_81 rfl rfl ?_
      obtain ⟨a4, b5, hf⟩ := Option.bind_eq_some_iff.mp hf
      refine GX31_15 b5 dX31_open_82 rfl ?_
      refine w_aload_n dX31_open_85 rfl rfl ?_
      obtain ⟨x6, b7, hf⟩ := Option.bind_eq_some_iff.mp hf
      refine GX31_60 b7 dX31_open_86 rfl ?_
      obtain ⟨_, b8, hf⟩ := Option.bind_eq_some_iff.mp hf
      refine x_cnV hf (e_stV (Yc := YX32_add) (ci := 31) (av := [.int x6]) (st := []) dX31_open_89 q3417 mX32_add rfl (k_ok_some b8).1 (k_ok_some b8).2) mX32_add.2.2.1 mX32_add.2.2.2.2.1 (Nat.le_of_ble_eq_true rfl) (Nat.le_of_ble_eq_true rfl) (fun q hq => pX32_add (by omega) hq) (fun q9 hf => ?_)
      refine w_iinc dX31_open_92 (v := (l1 + (1 : Int32))) rfl rfl (by decide) (ls' := [some (.ref l0), some (.int (l1 + (1 : Int32)))]) rfl ?_
      refine w_goto 73 dX31_open_95 (by decide) ?_
      exact (ih _ _ _ _ hf).to ⟨rfl, rfl, trivial⟩
def fX31_open (N : Nat) (this : Nat) (h : eH) : Option (Unit × eH) :=
  (g_A 30 h this 1).bind fun a1 =>
  (g_I 31 h a1 1).bind fun x3 =>
  if x3 ≤ 0 then
    (g_A 30 h this 1).bind fun a6 =>
    (k_ok 31 h a6).bind fun _ =>
    (fX32_add a6 (247 : Int32) h).bind fun q9 =>
    (g_A 30 q9.2 this 1).bind fun a10 =>
    (k_ok 31 q9.2 a10).bind fun _ =>
    (fX32_add a10 (2 : Int32) q9.2).bind fun q13 =>
    (g_A 30 q13.2 this 1).bind fun a14 =>
    (k_ok 31 q13.2 a14).bind fun _ =>
    (fX32_number N a14 (25400000 : Int32) (4 : Int32) q13.2).bind fun q17 =>
    (g_A 30 q17.2 this 1).bind fun a18 =>
    (k_ok 31 q17.2 a18).bind fun _ =>
    (fX32_number N a18 (473628672 : Int32) (4 : Int32) q17.2).bind fun q21 =>
    (g_A 30 q21.2 this 1).bind fun a22 =>
    (k_ok 31 q21.2 a22).bind fun _ =>
    (fX32_number N a22 (1000 : Int32) (4 : Int32) q21.2).bind fun q25 =>
    (g_A 30 q25.2 this 1).bind fun a26 =>
    (g_I 30 q25.2 this 12).bind fun x28 =>
    (k_ok 31 q25.2 a26).bind fun _ =>
    (fX32_add a26 x28 q25.2).bind fun q31 =>
    fX31_open_b73 N N this (0 : Int32) q31.2
  else
    some ((), h)
theorem pX31_open {w : eW} {d : Nat} (hd : 2 ≤ d) {N : Nat} {this : Nat} {h : eH} {q} (hf : fX31_open N this h = some q) : wm w d YX31_open [.ref this] h (e_is (e_rn c_V q)) := by
  obtain ⟨d, rfl⟩ : ∃ e, d = e + 1 := ⟨d - 1, by omega⟩
  show wp w (d + 1) YX31_open 0 [some (.ref this), none] [] h _
  unfold fX31_open at hf
  refine w_aload_n dX31_open_0 rfl rfl ?_
  obtain ⟨a1, b2, hf⟩ := Option.bind_eq_some_iff.mp hf
  refine GX31_15 b2 dX31_open_1 rfl ?_
  obtain ⟨x3, b4, hf⟩ := Option.bind_eq_some_iff.mp hf
  refine GX31_66 b4 dX31_open_4 rfl ?_
  refine w_if_le 11 dX31_open_7 (by decide) (fun c5 => ?_) (fun c5 => ?_)
  · replace hf := (if_pos (show x3 ≤ 0 from c5)).symm.trans hf
    refine w_aload_n dX31_open_11 rfl rfl ?_
    obtain ⟨a6, b7, hf⟩ := Option.bind_eq_some_iff.mp hf
    refine GX31_15 b7 dX31_open_12 rfl ?_
    refine w_sipush dX31_open_15 (v := 247) (by decide) ?_
    obtain ⟨_, b8, hf⟩ := Option.bind_eq_some_iff.mp hf
    refine x_cnV hf (e_stV (Yc := YX32_add) (ci := 31) (av := [.int (247 : Int32)]) (st := []) dX31_open_18 q3417 mX32_add rfl (k_ok_some b8).1 (k_ok_some b8).2) mX32_add.2.2.1 mX32_add.2.2.2.2.1 (Nat.le_of_ble_eq_true rfl) (Nat.le_of_ble_eq_true rfl) (fun q hq => pX32_add (by omega) hq) (fun q9 hf => ?_)
    refine w_aload_n dX31_open_21 rfl rfl ?_
    obtain ⟨a10, b11, hf⟩ := Option.bind_eq_some_iff.mp hf
    refine GX31_15 b11 dX31_open_22 rfl ?_
    refine w_iconst dX31_open_25 (v := 2) (by decide) ?_
    obtain ⟨_, b12, hf⟩ := Option.bind_eq_some_iff.mp hf
    refine x_cnV hf (e_stV (Yc := YX32_add) (ci := 31) (av := [.int (2 : Int32)]) (st := []) dX31_open_26 q3417 mX32_add rfl (k_ok_some b12).1 (k_ok_some b12).2) mX32_add.2.2.1 mX32_add.2.2.2.2.1 (Nat.le_of_ble_eq_true rfl) (Nat.le_of_ble_eq_true rfl) (fun q hq => pX32_add (by omega) hq) (fun q13 hf => ?_)
    refine w_aload_n dX31_open_29 rfl rfl ?_
    obtain ⟨a14, b15, hf⟩ := Option.bind_eq_some_iff.mp hf
    refine GX31_15 b15 dX31_open_30 rfl ?_
    refine w_ldc dX31_open_33 q3421 ?_
    refine w_iconst dX31_open_35 (v := 4) (by decide) ?_
    obtain ⟨_, b16, hf⟩ := Option.bind_eq_some_iff.mp hf
    refine x_cnV hf (e_stV (Yc := YX32_number) (ci := 31) (av := [.int (25400000 : Int32), .int (4 : Int32)]) (st := []) dX31_open_36 q3422 mX32_number rfl (k_ok_some b16).1 (k_ok_some b16).2) mX32_number.2.2.1 mX32_number.2.2.2.2.1 (Nat.le_of_ble_eq_true rfl) (Nat.le_of_ble_eq_true rfl) (fun q hq => pX32_number (by omega) hq) (fun q17 hf => ?_)
    refine w_aload_n dX31_open_39 rfl rfl ?_
    obtain ⟨a18, b19, hf⟩ := Option.bind_eq_some_iff.mp hf
    refine GX31_15 b19 dX31_open_40 rfl ?_
    refine w_ldc dX31_open_43 q3427 ?_
    refine w_iconst dX31_open_45 (v := 4) (by decide) ?_
    obtain ⟨_, b20, hf⟩ := Option.bind_eq_some_iff.mp hf
    refine x_cnV hf (e_stV (Yc := YX32_number) (ci := 31) (av := [.int (473628672 : Int32), .int (4 : Int32)]) (st := []) dX31_open_46 q3422 mX32_number rfl (k_ok_some b20).1 (k_ok_some b20).2) mX32_number.2.2.1 mX32_number.2.2.2.2.1 (Nat.le_of_ble_eq_true rfl) (Nat.le_of_ble_eq_true rfl) (fun q hq => pX32_number (by omega) hq) (fun q21 hf => ?_)
    refine w_aload_n dX31_open_49 rfl rfl ?_
    obtain ⟨a22, b23, hf⟩ := Option.bind_eq_some_iff.mp hf
    refine GX31_15 b23 dX31_open_50 rfl ?_
    refine w_sipush dX31_open_53 (v := 1000) (by decide) ?_
    refine w_iconst dX31_open_56 (v := 4) (by decide) ?_
    obtain ⟨_, b24, hf⟩ := Option.bind_eq_some_iff.mp hf
    refine x_cnV hf (e_stV (Yc := YX32_number) (ci := 31) (av := [.int (1000 : Int32), .int (4 : Int32)]) (st := []) dX31_open_57 q3422 mX32_number rfl (k_ok_some b24).1 (k_ok_some b24).2) mX32_number.2.2.1 mX32_number.2.2.2.2.1 (Nat.le_of_ble_eq_true rfl) (Nat.le_of_ble_eq_true rfl) (fun q hq => pX32_number (by omega) hq) (fun q25 hf => ?_)
    refine w_aload_n dX31_open_60 rfl rfl ?_
    obtain ⟨a26, b27, hf⟩ := Option.bind_eq_some_iff.mp hf
    refine GX31_15 b27 dX31_open_61 rfl ?_
    refine w_aload_n dX31_open_64 rfl rfl ?_
    obtain ⟨x28, b29, hf⟩ := Option.bind_eq_some_iff.mp hf
    refine GX31_63 b29 dX31_open_65 rfl ?_
    obtain ⟨_, b30, hf⟩ := Option.bind_eq_some_iff.mp hf
    refine x_cnV hf (e_stV (Yc := YX32_add) (ci := 31) (av := [.int x28]) (st := []) dX31_open_68 q3417 mX32_add rfl (k_ok_some b30).1 (k_ok_some b30).2) mX32_add.2.2.1 mX32_add.2.2.2.2.1 (Nat.le_of_ble_eq_true rfl) (Nat.le_of_ble_eq_true rfl) (fun q hq => pX32_add (by omega) hq) (fun q31 hf => ?_)
    refine w_iconst dX31_open_71 (v := 0) (by decide) ?_
    refine w_istore_n dX31_open_72 rfl (by decide) (ls' := [some (.ref this), some (.int (0 : Int32))]) rfl ?_
    exact (pX31_open_b73 hd N _ _ _ _ hf).to ⟨rfl, rfl, trivial⟩
  · replace hf := (if_neg (show ¬ (x3 ≤ 0) from c5)).symm.trans hf
    cases hf
    exact w_vret dX31_open_10 rfl rfl
abbrev cX33_is : ByteArray := prog_16_method_7_code
def yX33_is : MethodName := ⟨RX33, "is", "(II)Z"⟩
def YX33_is : eY := (yX33_is, cX33_is, 3, (Option.some FieldType.boolean), [])
theorem mX33_is : e_mv YX33_is RX33 2 := ⟨q3438, qs140, q3439, by decide, by decide +kernel, (e_sig (by decide +kernel))⟩
theorem dX33_is_0 : decode cX33_is 0 = .ok (.iload_n 1, 1) := dc_27 (by decide +kernel)
theorem dX33_is_1 : decode cX33_is 1 = .ok (.iconst (-1), 1) := dc_2 (by decide +kernel)
theorem dX33_is_2 : decode cX33_is 2 = .ok (.if_icmp .eq 17, 3) := dc_159 (a := 0) (b := 17) (v := 17) (by decide +kernel)
theorem dX33_is_5 : decode cX33_is 5 = .ok (.aload_n 0, 1) := dc_42 (by decide +kernel)
theorem dX33_is_6 : decode cX33_is 6 = .ok (.getfield 9, 3) := dc_180 (a := 0) (b := 9) (n := 9) (by decide +kernel)
theorem dX33_is_9 : decode cX33_is 9 = .ok (.iload_n 1, 1) := dc_27 (by decide +kernel)
theorem dX33_is_10 : decode cX33_is 10 = .ok (.iaload, 1) := dc_46 (by decide +kernel)
theorem dX33_is_11 : decode cX33_is 11 = .ok (.iload_n 2, 1) := dc_28 (by decide +kernel)
theorem dX33_is_12 : decode cX33_is 12 = .ok (.if_icmp .ne 7, 3) := dc_160 (a := 0) (b := 7) (v := 7) (by decide +kernel)
theorem dX33_is_15 : decode cX33_is 15 = .ok (.iconst 1, 1) := dc_4 (by decide +kernel)
theorem dX33_is_16 : decode cX33_is 16 = .ok (.goto 4, 3) := dc_167 (a := 0) (b := 4) (v := 4) (by decide +kernel)
theorem dX33_is_19 : decode cX33_is 19 = .ok (.iconst 0, 1) := dc_3 (by decide +kernel)
theorem dX33_is_20 : decode cX33_is 20 = .ok (.ireturn, 1) := dc_172 (by decide +kernel)
def fX33_is_b20 (s0 : Int32) (h : eH) : Option (Int32 × eH) :=
  z_r s0 (s0, h)
theorem pX33_is_b20 {w : eW} {d : Nat} (hd : 0 ≤ d) {s0 : Int32} {h : eH} {q} (hf : fX33_is_b20 s0 h = some q) : wp w d YX33_is 20 [none, none, none] [.int s0] h (e_is (e_rn c_I q)) := by
  unfold fX33_is_b20 at hf
  obtain ⟨b1, rfl⟩ := z_r_some hf
  exact w_iret dX33_is_20 rfl b1 rfl
def fX33_is_b19  (h : eH) : Option (Int32 × eH) :=
  fX33_is_b20 (0 : Int32) h
theorem pX33_is_b19 {w : eW} {d : Nat} (hd : 0 ≤ d)  {h : eH} {q} (hf : fX33_is_b19  h = some q) : wp w d YX33_is 19 [none, none, none] [] h (e_is (e_rn c_I q)) := by
  unfold fX33_is_b19 at hf
  refine w_iconst dX33_is_19 (v := 0) (by decide) ?_
  exact (pX33_is_b20 hd hf).to trivial
def fX33_is (this : Nat) (p0 : Int32) (p1 : Int32) (h : eH) : Option (Int32 × eH) :=
  if p0 = (-1 : Int32) then
    fX33_is_b19 h
  else
    (g_A 32 h this 2).bind fun a2 =>
    (r_I 100 h a2 p0).bind fun x4 =>
    if ¬ x4 = p1 then
      fX33_is_b19 h
    else
      fX33_is_b20 (1 : Int32) h
theorem pX33_is {w : eW} {d : Nat} (hd : 0 ≤ d) {this : Nat} {p0 : Int32} {p1 : Int32} {h : eH} {q} (hf : fX33_is this p0 p1 h = some q) : wm w d YX33_is [.ref this, .int p0, .int p1] h (e_is (e_rn c_I q)) := by
  show wp w d YX33_is 0 [some (.ref this), some (.int p0), some (.int p1)] [] h _
  unfold fX33_is at hf
  refine w_iload_n dX33_is_0 rfl rfl ?_
  refine w_iconst dX33_is_1 (v := -1) (by decide) ?_
  refine w_icmp_eq 19 dX33_is_2 (by decide) (fun c1 => ?_) (fun c1 => ?_)
  · replace hf := (if_pos (show p0 = (-1 : Int32) from c1)).symm.trans hf
    exact (pX33_is_b19 hd hf).to trivial
  · replace hf := (if_neg (show ¬ (p0 = (-1 : Int32)) from c1)).symm.trans hf
    refine w_aload_n dX33_is_5 rfl rfl ?_
    obtain ⟨a2, b3, hf⟩ := Option.bind_eq_some_iff.mp hf
    refine GX33_9 b3 dX33_is_6 rfl ?_
    refine w_iload_n dX33_is_9 rfl rfl ?_
    obtain ⟨x4, b5, hf⟩ := Option.bind_eq_some_iff.mp hf
    refine x_rI b5 dX33_is_10 ?_
    refine w_iload_n dX33_is_11 rfl rfl ?_
    refine w_icmp_ne 19 dX33_is_12 (by decide) (fun c6 => ?_) (fun c6 => ?_)
    · replace hf := (if_pos (show ¬ x4 = p1 from c6)).symm.trans hf
      exact (pX33_is_b19 hd hf).to trivial
    · replace hf := (if_neg (show ¬ (¬ x4 = p1) from (fun z => z c6))).symm.trans hf
      refine w_iconst dX33_is_15 (v := 1) (by decide) ?_
      refine w_goto 20 dX33_is_16 (by decide) ?_
      exact (pX33_is_b20 hd hf).to trivial
abbrev cX33_isAwaited : ByteArray := prog_16_method_6_code
def yX33_isAwaited : MethodName := ⟨RX33, "isAwaited", "(I)Z"⟩
def YX33_isAwaited : eY := (yX33_isAwaited, cX33_isAwaited, 2, (Option.some FieldType.boolean), [])
theorem mX33_isAwaited : e_mv YX33_isAwaited RX33 1 := ⟨q3443, qs141, q3444, by decide, by decide +kernel, (e_sig (by decide +kernel))⟩
theorem dX33_isAwaited_0 : decode cX33_isAwaited 0 = .ok (.iload_n 1, 1) := dc_27 (by decide +kernel)
theorem dX33_isAwaited_1 : decode cX33_isAwaited 1 = .ok (.iconst (-1), 1) := dc_2 (by decide +kernel)
theorem dX33_isAwaited_2 : decode cX33_isAwaited 2 = .ok (.if_icmp .eq 20, 3) := dc_159 (a := 0) (b := 20) (v := 20) (by decide +kernel)
theorem dX33_isAwaited_5 : decode cX33_isAwaited 5 = .ok (.aload_n 0, 1) := dc_42 (by decide +kernel)
theorem dX33_isAwaited_6 : decode cX33_isAwaited 6 = .ok (.getfield 15, 3) := dc_180 (a := 0) (b := 15) (n := 15) (by decide +kernel)
theorem dX33_isAwaited_9 : decode cX33_isAwaited 9 = .ok (.iload_n 1, 1) := dc_27 (by decide +kernel)
theorem dX33_isAwaited_10 : decode cX33_isAwaited 10 = .ok (.iaload, 1) := dc_46 (by decide +kernel)
theorem dX33_isAwaited_11 : decode cX33_isAwaited 11 = .ok (.aload_n 0, 1) := dc_42 (by decide +kernel)
theorem dX33_isAwaited_12 : decode cX33_isAwaited 12 = .ok (.getfield 31, 3) := dc_180 (a := 0) (b := 31) (n := 31) (by decide +kernel)
theorem dX33_isAwaited_15 : decode cX33_isAwaited 15 = .ok (.if_icmp .le 7, 3) := dc_164 (a := 0) (b := 7) (v := 7) (by decide +kernel)
theorem dX33_isAwaited_18 : decode cX33_isAwaited 18 = .ok (.iconst 1, 1) := dc_4 (by decide +kernel)
theorem dX33_isAwaited_19 : decode cX33_isAwaited 19 = .ok (.goto 4, 3) := dc_167 (a := 0) (b := 4) (v := 4) (by decide +kernel)
theorem dX33_isAwaited_22 : decode cX33_isAwaited 22 = .ok (.iconst 0, 1) := dc_3 (by decide +kernel)
theorem dX33_isAwaited_23 : decode cX33_isAwaited 23 = .ok (.ireturn, 1) := dc_172 (by decide +kernel)
theorem GX33_31 {w : eW} {d : Nat} {Y : eY} {pc : Nat} {ls : eL} {st : List Value} {h : eH} {Q : eO → eH → Prop} {a : Nat} {x : Int32} (hf : g_I 32 h a 5 = some x) (hd : decode Y.2.1 pc = .ok (.getfield 31, 3)) (hY : Y.1.cls = RX33) (kk : wp w d Y (pc + 3) ls (.int x :: st) h Q) : wp w d Y pc ls (.ref a :: st) h Q := x_gI (ci := 32) (k := 5) hf hd rfl (by decide) (by rw [hY]; exact q1691) kk
def fX33_isAwaited_b23 (s0 : Int32) (h : eH) : Option (Int32 × eH) :=
  z_r s0 (s0, h)
theorem pX33_isAwaited_b23 {w : eW} {d : Nat} (hd : 0 ≤ d) {s0 : Int32} {h : eH} {q} (hf : fX33_isAwaited_b23 s0 h = some q) : wp w d YX33_isAwaited 23 [none, none] [.int s0] h (e_is (e_rn c_I q)) := by
  unfold fX33_isAwaited_b23 at hf
  obtain ⟨b1, rfl⟩ := z_r_some hf
  exact w_iret dX33_isAwaited_23 rfl b1 rfl
def fX33_isAwaited_b22  (h : eH) : Option (Int32 × eH) :=
  fX33_isAwaited_b23 (0 : Int32) h
theorem pX33_isAwaited_b22 {w : eW} {d : Nat} (hd : 0 ≤ d)  {h : eH} {q} (hf : fX33_isAwaited_b22  h = some q) : wp w d YX33_isAwaited 22 [none, none] [] h (e_is (e_rn c_I q)) := by
  unfold fX33_isAwaited_b22 at hf
  refine w_iconst dX33_isAwaited_22 (v := 0) (by decide) ?_
  exact (pX33_isAwaited_b23 hd hf).to trivial
def fX33_isAwaited (this : Nat) (p0 : Int32) (h : eH) : Option (Int32 × eH) :=
  if p0 = (-1 : Int32) then
    fX33_isAwaited_b22 h
  else
    (g_A 32 h this 3).bind fun a2 =>
    (r_I 100 h a2 p0).bind fun x4 =>
    (g_I 32 h this 5).bind fun x6 =>
    if x4 ≤ x6 then
      fX33_isAwaited_b22 h
    else
      fX33_isAwaited_b23 (1 : Int32) h
theorem pX33_isAwaited {w : eW} {d : Nat} (hd : 0 ≤ d) {this : Nat} {p0 : Int32} {h : eH} {q} (hf : fX33_isAwaited this p0 h = some q) : wm w d YX33_isAwaited [.ref this, .int p0] h (e_is (e_rn c_I q)) := by
  show wp w d YX33_isAwaited 0 [some (.ref this), some (.int p0)] [] h _
  unfold fX33_isAwaited at hf
  refine w_iload_n dX33_isAwaited_0 rfl rfl ?_
  refine w_iconst dX33_isAwaited_1 (v := -1) (by decide) ?_
  refine w_icmp_eq 22 dX33_isAwaited_2 (by decide) (fun c1 => ?_) (fun c1 => ?_)
  · replace hf := (if_pos (show p0 = (-1 : Int32) from c1)).symm.trans hf
    exact (pX33_isAwaited_b22 hd hf).to trivial
  · replace hf := (if_neg (show ¬ (p0 = (-1 : Int32)) from c1)).symm.trans hf
    refine w_aload_n dX33_isAwaited_5 rfl rfl ?_
    obtain ⟨a2, b3, hf⟩ := Option.bind_eq_some_iff.mp hf
    refine GX33_15 b3 dX33_isAwaited_6 rfl ?_
    refine w_iload_n dX33_isAwaited_9 rfl rfl ?_
    obtain ⟨x4, b5, hf⟩ := Option.bind_eq_some_iff.mp hf
    refine x_rI b5 dX33_isAwaited_10 ?_
    refine w_aload_n dX33_isAwaited_11 rfl rfl ?_
    obtain ⟨x6, b7, hf⟩ := Option.bind_eq_some_iff.mp hf
    refine GX33_31 b7 dX33_isAwaited_12 rfl ?_
    refine w_icmp_le 22 dX33_isAwaited_15 (by decide) (fun c8 => ?_) (fun c8 => ?_)
    · replace hf := (if_pos (show x4 ≤ x6 from c8)).symm.trans hf
      exact (pX33_isAwaited_b22 hd hf).to trivial
    · replace hf := (if_neg (show ¬ (x4 ≤ x6) from c8)).symm.trans hf
      refine w_iconst dX33_isAwaited_18 (v := 1) (by decide) ?_
      refine w_goto 23 dX33_isAwaited_19 (by decide) ?_
      exact (pX33_isAwaited_b23 hd hf).to trivial
abbrev cX32_bytesFor : ByteArray := prog_5_method_4_code
def yX32_bytesFor : MethodName := ⟨RX32, "bytesFor", "(I)I"⟩
def YX32_bytesFor : eY := (yX32_bytesFor, cX32_bytesFor, 2, (Option.some FieldType.int), [])
theorem mX32_bytesFor : e_ms YX32_bytesFor 1 := ⟨q3450, q458, q3451, by decide, by decide +kernel, (e_sig (by decide +kernel))⟩
theorem dX32_bytesFor_0 : decode cX32_bytesFor 0 = .ok (.iconst 1, 1) := dc_4 (by decide +kernel)
theorem dX32_bytesFor_1 : decode cX32_bytesFor 1 = .ok (.istore_n 1, 1) := dc_60 (by decide +kernel)
theorem dX32_bytesFor_2 : decode cX32_bytesFor 2 = .ok (.iload_n 1, 1) := dc_27 (by decide +kernel)
theorem dX32_bytesFor_3 : decode cX32_bytesFor 3 = .ok (.iconst 4, 1) := dc_7 (by decide +kernel)
theorem dX32_bytesFor_4 : decode cX32_bytesFor 4 = .ok (.if_icmp .ge 34, 3) := dc_162 (a := 0) (b := 34) (v := 34) (by decide +kernel)
theorem dX32_bytesFor_7 : decode cX32_bytesFor 7 = .ok (.iload_n 0, 1) := dc_26 (by decide +kernel)
theorem dX32_bytesFor_8 : decode cX32_bytesFor 8 = .ok (.iconst 1, 1) := dc_4 (by decide +kernel)
theorem dX32_bytesFor_9 : decode cX32_bytesFor 9 = .ok (.bipush 8, 2) := dc_16 (a := 8) (v := 8) (by decide +kernel)
theorem dX32_bytesFor_11 : decode cX32_bytesFor 11 = .ok (.iload_n 1, 1) := dc_27 (by decide +kernel)
theorem dX32_bytesFor_12 : decode cX32_bytesFor 12 = .ok (.imul, 1) := dc_104 (by decide +kernel)
theorem dX32_bytesFor_13 : decode cX32_bytesFor 13 = .ok (.iconst 1, 1) := dc_4 (by decide +kernel)
theorem dX32_bytesFor_14 : decode cX32_bytesFor 14 = .ok (.isub, 1) := dc_100 (by decide +kernel)
theorem dX32_bytesFor_15 : decode cX32_bytesFor 15 = .ok (.ishl, 1) := dc_120 (by decide +kernel)
theorem dX32_bytesFor_16 : decode cX32_bytesFor 16 = .ok (.ineg, 1) := dc_116 (by decide +kernel)
theorem dX32_bytesFor_17 : decode cX32_bytesFor 17 = .ok (.if_icmp .lt 15, 3) := dc_161 (a := 0) (b := 15) (v := 15) (by decide +kernel)
theorem dX32_bytesFor_20 : decode cX32_bytesFor 20 = .ok (.iload_n 0, 1) := dc_26 (by decide +kernel)
theorem dX32_bytesFor_21 : decode cX32_bytesFor 21 = .ok (.iconst 1, 1) := dc_4 (by decide +kernel)
theorem dX32_bytesFor_22 : decode cX32_bytesFor 22 = .ok (.bipush 8, 2) := dc_16 (a := 8) (v := 8) (by decide +kernel)
theorem dX32_bytesFor_24 : decode cX32_bytesFor 24 = .ok (.iload_n 1, 1) := dc_27 (by decide +kernel)
theorem dX32_bytesFor_25 : decode cX32_bytesFor 25 = .ok (.imul, 1) := dc_104 (by decide +kernel)
theorem dX32_bytesFor_26 : decode cX32_bytesFor 26 = .ok (.iconst 1, 1) := dc_4 (by decide +kernel)
theorem dX32_bytesFor_27 : decode cX32_bytesFor 27 = .ok (.isub, 1) := dc_100 (by decide +kernel)
theorem dX32_bytesFor_28 : decode cX32_bytesFor 28 = .ok (.ishl, 1) := dc_120 (by decide +kernel)
theorem dX32_bytesFor_29 : decode cX32_bytesFor 29 = .ok (.if_icmp .lt 9, 3) := dc_161 (a := 0) (b := 9) (v := 9) (by decide +kernel)
theorem dX32_bytesFor_32 : decode cX32_bytesFor 32 = .ok (.iinc 1 1, 3) := dc_132 (a := 1) (b := 1) (v := 1) (by decide +kernel)
theorem dX32_bytesFor_35 : decode cX32_bytesFor 35 = .ok (.goto (-33), 3) := dc_167 (a := 255) (b := 223) (v := -33) (by decide +kernel)
theorem dX32_bytesFor_38 : decode cX32_bytesFor 38 = .ok (.iload_n 1, 1) := dc_27 (by decide +kernel)
theorem dX32_bytesFor_39 : decode cX32_bytesFor 39 = .ok (.ireturn, 1) := dc_172 (by decide +kernel)
def fX32_bytesFor_b32 (N : Nat) (k2 : Int32 → Int32 → eH → Option (Int32 × eH)) (l0 : Int32) (l1 : Int32) (h : eH) : Option (Int32 × eH) :=
  k2 l0 (l1 + (1 : Int32)) h
theorem pX32_bytesFor_b32 {w : eW} {d : Nat} (hd : 0 ≤ d) {N : Nat} {k2 : Int32 → Int32 → eH → Option (Int32 × eH)} (hk2 : ∀ l0 l1 h q, k2 l0 l1 h = some q → wp w d YX32_bytesFor 2 [some (.int l0), some (.int l1)] [] h (e_is (e_rn c_I q))) {l0 : Int32} {l1 : Int32} {h : eH} {q} (hf : fX32_bytesFor_b32 N k2 l0 l1 h = some q) : wp w d YX32_bytesFor 32 [some (.int l0), some (.int l1)] [] h (e_is (e_rn c_I q)) := by
  unfold fX32_bytesFor_b32 at hf
  refine w_iinc dX32_bytesFor_32 (v := (l1 + (1 : Int32))) rfl rfl (by decide) (ls' := [some (.int l0), some (.int (l1 + (1 : Int32)))]) rfl ?_
  refine w_goto 2 dX32_bytesFor_35 (by decide) ?_
  exact (hk2 _ _ _ _ hf).to ⟨rfl, rfl, trivial⟩
def fX32_bytesFor_b38 (N : Nat) (l1 : Int32) (h : eH) : Option (Int32 × eH) :=
  some (l1, h)
theorem pX32_bytesFor_b38 {w : eW} {d : Nat} (hd : 0 ≤ d) {N : Nat} {l1 : Int32} {h : eH} {q} (hf : fX32_bytesFor_b38 N l1 h = some q) : wp w d YX32_bytesFor 38 [none, some (.int l1)] [] h (e_is (e_rn c_I q)) := by
  unfold fX32_bytesFor_b38 at hf
  refine w_iload_n dX32_bytesFor_38 rfl rfl ?_
  cases hf
  exact w_iret dX32_bytesFor_39 rfl rfl rfl
def fX32_bytesFor_b2 (N : Nat) : Nat → Int32 → Int32 → eH → Option (Int32 × eH)
  | 0, _, _, _ => none
  | n + 1, l0, l1, h =>
    if (4 : Int32) ≤ l1 then
      fX32_bytesFor_b38 N l1 h
    else
      if l0 < (-((1 : Int32) <<< ((((8 : Int32) * l1) - (1 : Int32)) &&& 31))) then
        fX32_bytesFor_b32 N (fX32_bytesFor_b2 N n) l0 l1 h
      else
        if l0 < ((1 : Int32) <<< ((((8 : Int32) * l1) - (1 : Int32)) &&& 31)) then
          fX32_bytesFor_b38 N l1 h
        else
          fX32_bytesFor_b32 N (fX32_bytesFor_b2 N n) l0 l1 h
theorem pX32_bytesFor_b2 {w : eW} {d : Nat} (hd : 0 ≤ d) {N : Nat} : ∀ (n : Nat) l0 l1 h q, fX32_bytesFor_b2 N n l0 l1 h = some q → wp w d YX32_bytesFor 2 [some (.int l0), some (.int l1)] [] h (e_is (e_rn c_I q)) := by
  intro n
  induction n with
  | zero => intro l0 l1 h q hf; simp [fX32_bytesFor_b2] at hf
  | succ n ih =>
    intro l0 l1 h q hf
    rw [fX32_bytesFor_b2] at hf
    refine w_iload_n dX32_bytesFor_2 rfl rfl ?_
    refine w_iconst dX32_bytesFor_3 (v := 4) (by decide) ?_
    refine w_icmp_ge 38 dX32_bytesFor_4 (by decide) (fun c1 => ?_) (fun c1 => ?_)
    · replace hf := (if_pos (show (4 : Int32) ≤ l1 from c1)).symm.trans hf
      exact (pX32_bytesFor_b38 hd hf).to ⟨rfl, trivial⟩
    · replace hf := (if_neg (show ¬ ((4 : Int32) ≤ l1) from c1)).symm.trans hf
      refine w_iload_n dX32_bytesFor_7 rfl rfl ?_
      refine w_iconst dX32_bytesFor_8 (v := 1) (by decide) ?_
      refine w_bipush dX32_bytesFor_9 (v := 8) (by decide) ?_
      refine w_iload_n dX32_bytesFor_11 rfl rfl ?_
      refine w_imul dX32_bytesFor_12 ?_
      refine w_iconst dX32_bytesFor_13 (v := 1) (by decide) ?_
      refine w_isub dX32_bytesFor_14 ?_
      refine w_ishl dX32_bytesFor_15 ?_
      refine w_ineg dX32_bytesFor_16 ?_
      refine w_icmp_lt 32 dX32_bytesFor_17 (by decide) (fun c2 => ?_) (fun c2 => ?_)
      · replace hf := (if_pos (show l0 < (-((1 : Int32) <<< ((((8 : Int32) * l1) - (1 : Int32)) &&& 31))) from c2)).symm.trans hf
        exact (pX32_bytesFor_b32 hd ih hf).to ⟨rfl, rfl, trivial⟩
      · replace hf := (if_neg (show ¬ (l0 < (-((1 : Int32) <<< ((((8 : Int32) * l1) - (1 : Int32)) &&& 31)))) from c2)).symm.trans hf
        refine w_iload_n dX32_bytesFor_20 rfl rfl ?_
        refine w_iconst dX32_bytesFor_21 (v := 1) (by decide) ?_
        refine w_bipush dX32_bytesFor_22 (v := 8) (by decide) ?_
        refine w_iload_n dX32_bytesFor_24 rfl rfl ?_
        refine w_imul dX32_bytesFor_25 ?_
        refine w_iconst dX32_bytesFor_26 (v := 1) (by decide) ?_
        refine w_isub dX32_bytesFor_27 ?_
        refine w_ishl dX32_bytesFor_28 ?_
        refine w_icmp_lt 38 dX32_bytesFor_29 (by decide) (fun c3 => ?_) (fun c3 => ?_)
        · replace hf := (if_pos (show l0 < ((1 : Int32) <<< ((((8 : Int32) * l1) - (1 : Int32)) &&& 31)) from c3)).symm.trans hf
          exact (pX32_bytesFor_b38 hd hf).to ⟨rfl, trivial⟩
        · replace hf := (if_neg (show ¬ (l0 < ((1 : Int32) <<< ((((8 : Int32) * l1) - (1 : Int32)) &&& 31))) from c3)).symm.trans hf
          exact (pX32_bytesFor_b32 hd ih hf).to ⟨rfl, rfl, trivial⟩
def fX32_bytesFor (N : Nat) (p0 : Int32) (h : eH) : Option (Int32 × eH) :=
  fX32_bytesFor_b2 N N p0 (1 : Int32) h
theorem pX32_bytesFor {w : eW} {d : Nat} (hd : 0 ≤ d) {N : Nat} {p0 : Int32} {h : eH} {q} (hf : fX32_bytesFor N p0 h = some q) : wm w d YX32_bytesFor [.int p0] h (e_is (e_rn c_I q)) := by
  show wp w d YX32_bytesFor 0 [some (.int p0), none] [] h _
  unfold fX32_bytesFor at hf
  refine w_iconst dX32_bytesFor_0 (v := 1) (by decide) ?_
  refine w_istore_n dX32_bytesFor_1 rfl (by decide) (ls' := [some (.int p0), some (.int (1 : Int32))]) rfl ?_
  exact (pX32_bytesFor_b2 hd N _ _ _ _ hf).to ⟨rfl, rfl, trivial⟩
abbrev cX32_shortest : ByteArray := prog_5_method_5_code
def yX32_shortest : MethodName := ⟨RX32, "shortest", "(II)V"⟩
def YX32_shortest : eY := (yX32_shortest, cX32_shortest, 4, none, [])
theorem mX32_shortest : e_mv YX32_shortest RX32 2 := ⟨q3446, q3447, q3448, by decide, by decide +kernel, (e_sig (by decide +kernel))⟩
theorem dX32_shortest_0 : decode cX32_shortest 0 = .ok (.iload_n 2, 1) := dc_28 (by decide +kernel)
theorem dX32_shortest_1 : decode cX32_shortest 1 = .ok (.invokestatic 21, 3) := dc_184 (a := 0) (b := 21) (n := 21) (by decide +kernel)
theorem dX32_shortest_4 : decode cX32_shortest 4 = .ok (.istore_n 3, 1) := dc_62 (by decide +kernel)
theorem dX32_shortest_5 : decode cX32_shortest 5 = .ok (.aload_n 0, 1) := dc_42 (by decide +kernel)
theorem dX32_shortest_6 : decode cX32_shortest 6 = .ok (.iload_n 1, 1) := dc_27 (by decide +kernel)
theorem dX32_shortest_7 : decode cX32_shortest 7 = .ok (.iload_n 3, 1) := dc_29 (by decide +kernel)
theorem dX32_shortest_8 : decode cX32_shortest 8 = .ok (.iadd, 1) := dc_96 (by decide +kernel)
theorem dX32_shortest_9 : decode cX32_shortest 9 = .ok (.iconst 1, 1) := dc_4 (by decide +kernel)
theorem dX32_shortest_10 : decode cX32_shortest 10 = .ok (.isub, 1) := dc_100 (by decide +kernel)
theorem dX32_shortest_11 : decode cX32_shortest 11 = .ok (.invokevirtual 17, 3) := dc_182 (a := 0) (b := 17) (n := 17) (by decide +kernel)
theorem dX32_shortest_14 : decode cX32_shortest 14 = .ok (.aload_n 0, 1) := dc_42 (by decide +kernel)
theorem dX32_shortest_15 : decode cX32_shortest 15 = .ok (.iload_n 2, 1) := dc_28 (by decide +kernel)
theorem dX32_shortest_16 : decode cX32_shortest 16 = .ok (.iload_n 3, 1) := dc_29 (by decide +kernel)
theorem dX32_shortest_17 : decode cX32_shortest 17 = .ok (.invokevirtual 25, 3) := dc_182 (a := 0) (b := 25) (n := 25) (by decide +kernel)
theorem dX32_shortest_20 : decode cX32_shortest 20 = .ok (.return_, 1) := dc_177 (by decide +kernel)
def fX32_shortest (N : Nat) (this : Nat) (p0 : Int32) (p1 : Int32) (h : eH) : Option (Unit × eH) :=
  (fX32_bytesFor N p1 h).bind fun q1 =>
  (k_ok 31 q1.2 this).bind fun _ =>
  (fX32_add this ((p0 + q1.1) - (1 : Int32)) q1.2).bind fun q3 =>
  (k_ok 31 q3.2 this).bind fun _ =>
  (fX32_number N this p1 q1.1 q3.2).bind fun q5 =>
  some ((), q5.2)
theorem pX32_shortest {w : eW} {d : Nat} (hd : 2 ≤ d) {N : Nat} {this : Nat} {p0 : Int32} {p1 : Int32} {h : eH} {q} (hf : fX32_shortest N this p0 p1 h = some q) : wm w d YX32_shortest [.ref this, .int p0, .int p1] h (e_is (e_rn c_V q)) := by
  obtain ⟨d, rfl⟩ : ∃ e, d = e + 1 := ⟨d - 1, by omega⟩
  show wp w (d + 1) YX32_shortest 0 [some (.ref this), some (.int p0), some (.int p1), none] [] h _
  unfold fX32_shortest at hf
  refine w_iload_n dX32_shortest_0 rfl rfl ?_
  refine x_cnI hf (e_stS (Yc := YX32_bytesFor) (av := [.int p1]) (st := []) dX32_shortest_1 q3449 mX32_bytesFor) mX32_bytesFor.2.2.1 mX32_bytesFor.2.2.2.2.1 (Nat.le_of_ble_eq_true rfl) (Nat.le_of_ble_eq_true rfl) (fun q hq => pX32_bytesFor (by omega) hq) (fun q1 hf => ?_)
  refine w_istore_n dX32_shortest_4 rfl (by decide) (ls' := [some (.ref this), some (.int p0), some (.int p1), some (.int q1.1)]) rfl ?_
  refine w_aload_n dX32_shortest_5 rfl rfl ?_
  refine w_iload_n dX32_shortest_6 rfl rfl ?_
  refine w_iload_n dX32_shortest_7 rfl rfl ?_
  refine w_iadd dX32_shortest_8 ?_
  refine w_iconst dX32_shortest_9 (v := 1) (by decide) ?_
  refine w_isub dX32_shortest_10 ?_
  obtain ⟨_, b2, hf⟩ := Option.bind_eq_some_iff.mp hf
  refine x_cnV hf (e_stV (Yc := YX32_add) (ci := 31) (av := [.int ((p0 + q1.1) - (1 : Int32))]) (st := []) dX32_shortest_11 q3426 mX32_add rfl (k_ok_some b2).1 (k_ok_some b2).2) mX32_add.2.2.1 mX32_add.2.2.2.2.1 (Nat.le_of_ble_eq_true rfl) (Nat.le_of_ble_eq_true rfl) (fun q hq => pX32_add (by omega) hq) (fun q3 hf => ?_)
  refine w_aload_n dX32_shortest_14 rfl rfl ?_
  refine w_iload_n dX32_shortest_15 rfl rfl ?_
  refine w_iload_n dX32_shortest_16 rfl rfl ?_
  obtain ⟨_, b4, hf⟩ := Option.bind_eq_some_iff.mp hf
  refine x_cnV hf (e_stV (Yc := YX32_number) (ci := 31) (av := [.int p1, .int q1.1]) (st := []) dX32_shortest_17 q3452 mX32_number rfl (k_ok_some b4).1 (k_ok_some b4).2) mX32_number.2.2.1 mX32_number.2.2.2.2.1 (Nat.le_of_ble_eq_true rfl) (Nat.le_of_ble_eq_true rfl) (fun q hq => pX32_number (by omega) hq) (fun q5 hf => ?_)
  cases hf
  exact w_vret dX32_shortest_20 rfl rfl
abbrev cX33_write : ByteArray := prog_16_method_8_code
def yX33_write : MethodName := ⟨RX33, "write", "(ILTypeHouse$FileBytes;)V"⟩
def YX33_write : eY := (yX33_write, cX33_write, 3, none, [])
theorem mX33_write : e_mv YX33_write RX33 2 := ⟨q3433, q3434, q3435, by decide, by decide +kernel, (e_sig (by decide +kernel))⟩
theorem dX33_write_0 : decode cX33_write 0 = .ok (.iload_n 1, 1) := dc_27 (by decide +kernel)
theorem dX33_write_1 : decode cX33_write 1 = .ok (.ifCond .ne 4, 3) := dc_154 (a := 0) (b := 4) (v := 4) (by decide +kernel)
theorem dX33_write_4 : decode cX33_write 4 = .ok (.return_, 1) := dc_177 (by decide +kernel)
theorem dX33_write_5 : decode cX33_write 5 = .ok (.aload_n 0, 1) := dc_42 (by decide +kernel)
theorem dX33_write_6 : decode cX33_write 6 = .ok (.aload_n 0, 1) := dc_42 (by decide +kernel)
theorem dX33_write_7 : decode cX33_write 7 = .ok (.getfield 34, 3) := dc_180 (a := 0) (b := 34) (n := 34) (by decide +kernel)
theorem dX33_write_10 : decode cX33_write 10 = .ok (.iload_n 1, 1) := dc_27 (by decide +kernel)
theorem dX33_write_11 : decode cX33_write 11 = .ok (.invokevirtual 45, 3) := dc_182 (a := 0) (b := 45) (n := 45) (by decide +kernel)
theorem dX33_write_14 : decode cX33_write 14 = .ok (.ifCond .eq 14, 3) := dc_153 (a := 0) (b := 14) (v := 14) (by decide +kernel)
theorem dX33_write_17 : decode cX33_write 17 = .ok (.aload_n 2, 1) := dc_44 (by decide +kernel)
theorem dX33_write_18 : decode cX33_write 18 = .ok (.aload_n 0, 1) := dc_42 (by decide +kernel)
theorem dX33_write_19 : decode cX33_write 19 = .ok (.getfield 25, 3) := dc_180 (a := 0) (b := 25) (n := 25) (by decide +kernel)
theorem dX33_write_22 : decode cX33_write 22 = .ok (.invokevirtual 49, 3) := dc_182 (a := 0) (b := 49) (n := 49) (by decide +kernel)
theorem dX33_write_25 : decode cX33_write 25 = .ok (.goto 136, 3) := dc_167 (a := 0) (b := 136) (v := 136) (by decide +kernel)
theorem dX33_write_28 : decode cX33_write 28 = .ok (.aload_n 0, 1) := dc_42 (by decide +kernel)
theorem dX33_write_29 : decode cX33_write 29 = .ok (.aload_n 0, 1) := dc_42 (by decide +kernel)
theorem dX33_write_30 : decode cX33_write 30 = .ok (.getfield 37, 3) := dc_180 (a := 0) (b := 37) (n := 37) (by decide +kernel)
theorem dX33_write_33 : decode cX33_write 33 = .ok (.iload_n 1, 1) := dc_27 (by decide +kernel)
theorem dX33_write_34 : decode cX33_write 34 = .ok (.invokevirtual 45, 3) := dc_182 (a := 0) (b := 45) (n := 45) (by decide +kernel)
theorem dX33_write_37 : decode cX33_write 37 = .ok (.ifCond .eq 16, 3) := dc_153 (a := 0) (b := 16) (v := 16) (by decide +kernel)
theorem dX33_write_40 : decode cX33_write 40 = .ok (.aload_n 2, 1) := dc_44 (by decide +kernel)
theorem dX33_write_41 : decode cX33_write 41 = .ok (.aload_n 0, 1) := dc_42 (by decide +kernel)
theorem dX33_write_42 : decode cX33_write 42 = .ok (.getfield 25, 3) := dc_180 (a := 0) (b := 25) (n := 25) (by decide +kernel)
theorem dX33_write_45 : decode cX33_write 45 = .ok (.iconst 5, 1) := dc_8 (by decide +kernel)
theorem dX33_write_46 : decode cX33_write 46 = .ok (.iadd, 1) := dc_96 (by decide +kernel)
theorem dX33_write_47 : decode cX33_write 47 = .ok (.invokevirtual 49, 3) := dc_182 (a := 0) (b := 49) (n := 49) (by decide +kernel)
theorem dX33_write_50 : decode cX33_write 50 = .ok (.goto 111, 3) := dc_167 (a := 0) (b := 111) (v := 111) (by decide +kernel)
theorem dX33_write_53 : decode cX33_write 53 = .ok (.aload_n 0, 1) := dc_42 (by decide +kernel)
theorem dX33_write_54 : decode cX33_write 54 = .ok (.getfield 15, 3) := dc_180 (a := 0) (b := 15) (n := 15) (by decide +kernel)
theorem dX33_write_57 : decode cX33_write 57 = .ok (.aload_n 0, 1) := dc_42 (by decide +kernel)
theorem dX33_write_58 : decode cX33_write 58 = .ok (.getfield 31, 3) := dc_180 (a := 0) (b := 31) (n := 31) (by decide +kernel)
theorem dX33_write_61 : decode cX33_write 61 = .ok (.iaload, 1) := dc_46 (by decide +kernel)
theorem dX33_write_62 : decode cX33_write 62 = .ok (.aload_n 0, 1) := dc_42 (by decide +kernel)
theorem dX33_write_63 : decode cX33_write 63 = .ok (.getfield 31, 3) := dc_180 (a := 0) (b := 31) (n := 31) (by decide +kernel)
theorem dX33_write_66 : decode cX33_write 66 = .ok (.if_icmp .le 36, 3) := dc_164 (a := 0) (b := 36) (v := 36) (by decide +kernel)
theorem dX33_write_69 : decode cX33_write 69 = .ok (.aload_n 0, 1) := dc_42 (by decide +kernel)
theorem dX33_write_70 : decode cX33_write 70 = .ok (.aload_n 0, 1) := dc_42 (by decide +kernel)
theorem dX33_write_71 : decode cX33_write 71 = .ok (.getfield 34, 3) := dc_180 (a := 0) (b := 34) (n := 34) (by decide +kernel)
theorem dX33_write_74 : decode cX33_write 74 = .ok (.invokevirtual 55, 3) := dc_182 (a := 0) (b := 55) (n := 55) (by decide +kernel)
theorem dX33_write_77 : decode cX33_write 77 = .ok (.ifCond .ne 25, 3) := dc_154 (a := 0) (b := 25) (v := 25) (by decide +kernel)
theorem dX33_write_80 : decode cX33_write 80 = .ok (.aload_n 0, 1) := dc_42 (by decide +kernel)
theorem dX33_write_81 : decode cX33_write 81 = .ok (.aload_n 0, 1) := dc_42 (by decide +kernel)
theorem dX33_write_82 : decode cX33_write 82 = .ok (.getfield 31, 3) := dc_180 (a := 0) (b := 31) (n := 31) (by decide +kernel)
theorem dX33_write_85 : decode cX33_write 85 = .ok (.putfield 34, 3) := dc_181 (a := 0) (b := 34) (n := 34) (by decide +kernel)
theorem dX33_write_88 : decode cX33_write 88 = .ok (.aload_n 2, 1) := dc_44 (by decide +kernel)
theorem dX33_write_89 : decode cX33_write 89 = .ok (.aload_n 0, 1) := dc_42 (by decide +kernel)
theorem dX33_write_90 : decode cX33_write 90 = .ok (.getfield 25, 3) := dc_180 (a := 0) (b := 25) (n := 25) (by decide +kernel)
theorem dX33_write_93 : decode cX33_write 93 = .ok (.iconst 1, 1) := dc_4 (by decide +kernel)
theorem dX33_write_94 : decode cX33_write 94 = .ok (.iadd, 1) := dc_96 (by decide +kernel)
theorem dX33_write_95 : decode cX33_write 95 = .ok (.iload_n 1, 1) := dc_27 (by decide +kernel)
theorem dX33_write_96 : decode cX33_write 96 = .ok (.invokevirtual 59, 3) := dc_182 (a := 0) (b := 59) (n := 59) (by decide +kernel)
theorem dX33_write_99 : decode cX33_write 99 = .ok (.goto 62, 3) := dc_167 (a := 0) (b := 62) (v := 62) (by decide +kernel)
theorem dX33_write_102 : decode cX33_write 102 = .ok (.aload_n 0, 1) := dc_42 (by decide +kernel)
theorem dX33_write_103 : decode cX33_write 103 = .ok (.getfield 15, 3) := dc_180 (a := 0) (b := 15) (n := 15) (by decide +kernel)
theorem dX33_write_106 : decode cX33_write 106 = .ok (.aload_n 0, 1) := dc_42 (by decide +kernel)
theorem dX33_write_107 : decode cX33_write 107 = .ok (.getfield 31, 3) := dc_180 (a := 0) (b := 31) (n := 31) (by decide +kernel)
theorem dX33_write_110 : decode cX33_write 110 = .ok (.iaload, 1) := dc_46 (by decide +kernel)
theorem dX33_write_111 : decode cX33_write 111 = .ok (.aload_n 0, 1) := dc_42 (by decide +kernel)
theorem dX33_write_112 : decode cX33_write 112 = .ok (.getfield 31, 3) := dc_180 (a := 0) (b := 31) (n := 31) (by decide +kernel)
theorem dX33_write_115 : decode cX33_write 115 = .ok (.if_icmp .le 37, 3) := dc_164 (a := 0) (b := 37) (v := 37) (by decide +kernel)
theorem dX33_write_118 : decode cX33_write 118 = .ok (.aload_n 0, 1) := dc_42 (by decide +kernel)
theorem dX33_write_119 : decode cX33_write 119 = .ok (.aload_n 0, 1) := dc_42 (by decide +kernel)
theorem dX33_write_120 : decode cX33_write 120 = .ok (.getfield 37, 3) := dc_180 (a := 0) (b := 37) (n := 37) (by decide +kernel)
theorem dX33_write_123 : decode cX33_write 123 = .ok (.invokevirtual 55, 3) := dc_182 (a := 0) (b := 55) (n := 55) (by decide +kernel)
theorem dX33_write_126 : decode cX33_write 126 = .ok (.ifCond .ne 26, 3) := dc_154 (a := 0) (b := 26) (v := 26) (by decide +kernel)
theorem dX33_write_129 : decode cX33_write 129 = .ok (.aload_n 0, 1) := dc_42 (by decide +kernel)
theorem dX33_write_130 : decode cX33_write 130 = .ok (.aload_n 0, 1) := dc_42 (by decide +kernel)
theorem dX33_write_131 : decode cX33_write 131 = .ok (.getfield 31, 3) := dc_180 (a := 0) (b := 31) (n := 31) (by decide +kernel)
theorem dX33_write_134 : decode cX33_write 134 = .ok (.putfield 37, 3) := dc_181 (a := 0) (b := 37) (n := 37) (by decide +kernel)
theorem dX33_write_137 : decode cX33_write 137 = .ok (.aload_n 2, 1) := dc_44 (by decide +kernel)
theorem dX33_write_138 : decode cX33_write 138 = .ok (.aload_n 0, 1) := dc_42 (by decide +kernel)
theorem dX33_write_139 : decode cX33_write 139 = .ok (.getfield 25, 3) := dc_180 (a := 0) (b := 25) (n := 25) (by decide +kernel)
theorem dX33_write_142 : decode cX33_write 142 = .ok (.bipush 6, 2) := dc_16 (a := 6) (v := 6) (by decide +kernel)
theorem dX33_write_144 : decode cX33_write 144 = .ok (.iadd, 1) := dc_96 (by decide +kernel)
theorem dX33_write_145 : decode cX33_write 145 = .ok (.iload_n 1, 1) := dc_27 (by decide +kernel)
theorem dX33_write_146 : decode cX33_write 146 = .ok (.invokevirtual 59, 3) := dc_182 (a := 0) (b := 59) (n := 59) (by decide +kernel)
theorem dX33_write_149 : decode cX33_write 149 = .ok (.goto 12, 3) := dc_167 (a := 0) (b := 12) (v := 12) (by decide +kernel)
theorem dX33_write_152 : decode cX33_write 152 = .ok (.aload_n 2, 1) := dc_44 (by decide +kernel)
theorem dX33_write_153 : decode cX33_write 153 = .ok (.aload_n 0, 1) := dc_42 (by decide +kernel)
theorem dX33_write_154 : decode cX33_write 154 = .ok (.getfield 21, 3) := dc_180 (a := 0) (b := 21) (n := 21) (by decide +kernel)
theorem dX33_write_157 : decode cX33_write 157 = .ok (.iload_n 1, 1) := dc_27 (by decide +kernel)
theorem dX33_write_158 : decode cX33_write 158 = .ok (.invokevirtual 59, 3) := dc_182 (a := 0) (b := 59) (n := 59) (by decide +kernel)
theorem dX33_write_161 : decode cX33_write 161 = .ok (.aload_n 0, 1) := dc_42 (by decide +kernel)
theorem dX33_write_162 : decode cX33_write 162 = .ok (.dup, 1) := dc_89 (by decide +kernel)
theorem dX33_write_163 : decode cX33_write 163 = .ok (.getfield 31, 3) := dc_180 (a := 0) (b := 31) (n := 31) (by decide +kernel)
theorem dX33_write_166 : decode cX33_write 166 = .ok (.iconst 1, 1) := dc_4 (by decide +kernel)
theorem dX33_write_167 : decode cX33_write 167 = .ok (.iadd, 1) := dc_96 (by decide +kernel)
theorem dX33_write_168 : decode cX33_write 168 = .ok (.putfield 31, 3) := dc_181 (a := 0) (b := 31) (n := 31) (by decide +kernel)
theorem dX33_write_171 : decode cX33_write 171 = .ok (.return_, 1) := dc_177 (by decide +kernel)
theorem GX33_21 {w : eW} {d : Nat} {Y : eY} {pc : Nat} {ls : eL} {st : List Value} {h : eH} {Q : eO → eH → Prop} {a : Nat} {x : Int32} (hf : g_I 32 h a 1 = some x) (hd : decode Y.2.1 pc = .ok (.getfield 21, 3)) (hY : Y.1.cls = RX33) (kk : wp w d Y (pc + 3) ls (.int x :: st) h Q) : wp w d Y pc ls (.ref a :: st) h Q := x_gI (ci := 32) (k := 1) hf hd rfl (by decide) (by rw [hY]; exact q1687) kk
theorem GX33_25 {w : eW} {d : Nat} {Y : eY} {pc : Nat} {ls : eL} {st : List Value} {h : eH} {Q : eO → eH → Prop} {a : Nat} {x : Int32} (hf : g_I 32 h a 0 = some x) (hd : decode Y.2.1 pc = .ok (.getfield 25, 3)) (hY : Y.1.cls = RX33) (kk : wp w d Y (pc + 3) ls (.int x :: st) h Q) : wp w d Y pc ls (.ref a :: st) h Q := x_gI (ci := 32) (k := 0) hf hd rfl (by decide) (by rw [hY]; exact q1686) kk
theorem GX33_34 {w : eW} {d : Nat} {Y : eY} {pc : Nat} {ls : eL} {st : List Value} {h : eH} {Q : eO → eH → Prop} {a : Nat} {x : Int32} (hf : g_I 32 h a 6 = some x) (hd : decode Y.2.1 pc = .ok (.getfield 34, 3)) (hY : Y.1.cls = RX33) (kk : wp w d Y (pc + 3) ls (.int x :: st) h Q) : wp w d Y pc ls (.ref a :: st) h Q := x_gI (ci := 32) (k := 6) hf hd rfl (by decide) (by rw [hY]; exact q1692) kk
theorem GX33_37 {w : eW} {d : Nat} {Y : eY} {pc : Nat} {ls : eL} {st : List Value} {h : eH} {Q : eO → eH → Prop} {a : Nat} {x : Int32} (hf : g_I 32 h a 7 = some x) (hd : decode Y.2.1 pc = .ok (.getfield 37, 3)) (hY : Y.1.cls = RX33) (kk : wp w d Y (pc + 3) ls (.int x :: st) h Q) : wp w d Y pc ls (.ref a :: st) h Q := x_gI (ci := 32) (k := 7) hf hd rfl (by decide) (by rw [hY]; exact q1693) kk
def fX33_write_b161 (N : Nat) (l0 : Nat) (h : eH) : Option (Unit × eH) :=
  (g_I 32 h l0 5).bind fun x1 =>
  (p_V 32 h l0 5 (.int (x1 + (1 : Int32)))).bind fun h3 =>
  some ((), h3)
theorem pX33_write_b161 {w : eW} {d : Nat} (hd : 3 ≤ d + 1) {N : Nat} {l0 : Nat} {h : eH} {q} (hf : fX33_write_b161 N l0 h = some q) : wp w (d + 1) YX33_write 161 [some (.ref l0), none, none] [] h (e_is (e_rn c_V q)) := by
  unfold fX33_write_b161 at hf
  refine w_aload_n dX33_write_161 rfl rfl ?_
  refine w_dup dX33_write_162 rfl ?_
  obtain ⟨x1, b2, hf⟩ := Option.bind_eq_some_iff.mp hf
  refine GX33_31 b2 dX33_write_163 rfl ?_
  refine w_iconst dX33_write_166 (v := 1) (by decide) ?_
  refine w_iadd dX33_write_167 ?_
  obtain ⟨h3, b4, hf⟩ := Option.bind_eq_some_iff.mp hf
  refine SX33_31 b4 dX33_write_168 rfl ?_
  cases hf
  exact w_vret dX33_write_171 rfl rfl
def fX33_write_b152 (N : Nat) (l0 : Nat) (l1 : Int32) (l2 : Nat) (h : eH) : Option (Unit × eH) :=
  (g_I 32 h l0 1).bind fun x1 =>
  (k_ok 31 h l2).bind fun _ =>
  (fX32_shortest N l2 x1 l1 h).bind fun q4 =>
  fX33_write_b161 N l0 q4.2
theorem pX33_write_b152 {w : eW} {d : Nat} (hd : 3 ≤ d + 1) {N : Nat} {l0 : Nat} {l1 : Int32} {l2 : Nat} {h : eH} {q} (hf : fX33_write_b152 N l0 l1 l2 h = some q) : wp w (d + 1) YX33_write 152 [some (.ref l0), some (.int l1), some (.ref l2)] [] h (e_is (e_rn c_V q)) := by
  unfold fX33_write_b152 at hf
  refine w_aload_n dX33_write_152 rfl rfl ?_
  refine w_aload_n dX33_write_153 rfl rfl ?_
  obtain ⟨x1, b2, hf⟩ := Option.bind_eq_some_iff.mp hf
  refine GX33_21 b2 dX33_write_154 rfl ?_
  refine w_iload_n dX33_write_157 rfl rfl ?_
  obtain ⟨_, b3, hf⟩ := Option.bind_eq_some_iff.mp hf
  refine x_cnV hf (e_stV (Yc := YX32_shortest) (ci := 31) (av := [.int x1, .int l1]) (st := []) dX33_write_158 q3445 mX32_shortest rfl (k_ok_some b3).1 (k_ok_some b3).2) mX32_shortest.2.2.1 mX32_shortest.2.2.2.2.1 (Nat.le_of_ble_eq_true rfl) (Nat.le_of_ble_eq_true rfl) (fun q hq => pX32_shortest (by omega) hq) (fun q4 hf => ?_)
  exact (pX33_write_b161 hd hf).to ⟨rfl, trivial⟩
def fX33_write_b102 (N : Nat) (l0 : Nat) (l1 : Int32) (l2 : Nat) (h : eH) : Option (Unit × eH) :=
  (g_A 32 h l0 3).bind fun a1 =>
  (g_I 32 h l0 5).bind fun x3 =>
  (r_I 100 h a1 x3).bind fun x5 =>
  (g_I 32 h l0 5).bind fun x7 =>
  if x5 ≤ x7 then
    fX33_write_b152 N l0 l1 l2 h
  else
    (g_I 32 h l0 7).bind fun x10 =>
    (k_ok 32 h l0).bind fun _ =>
    (fX33_isAwaited l0 x10 h).bind fun q13 =>
    if ¬ q13.1 = 0 then
      fX33_write_b152 N l0 l1 l2 q13.2
    else
      (g_I 32 q13.2 l0 5).bind fun x15 =>
      (p_V 32 q13.2 l0 7 (.int x15)).bind fun h17 =>
      (g_I 32 h17 l0 0).bind fun x19 =>
      (k_ok 31 h17 l2).bind fun _ =>
      (fX32_shortest N l2 (x19 + (6 : Int32)) l1 h17).bind fun q22 =>
      fX33_write_b161 N l0 q22.2
theorem pX33_write_b102 {w : eW} {d : Nat} (hd : 3 ≤ d + 1) {N : Nat} {l0 : Nat} {l1 : Int32} {l2 : Nat} {h : eH} {q} (hf : fX33_write_b102 N l0 l1 l2 h = some q) : wp w (d + 1) YX33_write 102 [some (.ref l0), some (.int l1), some (.ref l2)] [] h (e_is (e_rn c_V q)) := by
  unfold fX33_write_b102 at hf
  refine w_aload_n dX33_write_102 rfl rfl ?_
  obtain ⟨a1, b2, hf⟩ := Option.bind_eq_some_iff.mp hf
  refine GX33_15 b2 dX33_write_103 rfl ?_
  refine w_aload_n dX33_write_106 rfl rfl ?_
  obtain ⟨x3, b4, hf⟩ := Option.bind_eq_some_iff.mp hf
  refine GX33_31 b4 dX33_write_107 rfl ?_
  obtain ⟨x5, b6, hf⟩ := Option.bind_eq_some_iff.mp hf
  refine x_rI b6 dX33_write_110 ?_
  refine w_aload_n dX33_write_111 rfl rfl ?_
  obtain ⟨x7, b8, hf⟩ := Option.bind_eq_some_iff.mp hf
  refine GX33_31 b8 dX33_write_112 rfl ?_
  refine w_icmp_le 152 dX33_write_115 (by decide) (fun c9 => ?_) (fun c9 => ?_)
  · replace hf := (if_pos (show x5 ≤ x7 from c9)).symm.trans hf
    exact (pX33_write_b152 hd hf).to ⟨rfl, rfl, rfl, trivial⟩
  · replace hf := (if_neg (show ¬ (x5 ≤ x7) from c9)).symm.trans hf
    refine w_aload_n dX33_write_118 rfl rfl ?_
    refine w_aload_n dX33_write_119 rfl rfl ?_
    obtain ⟨x10, b11, hf⟩ := Option.bind_eq_some_iff.mp hf
    refine GX33_37 b11 dX33_write_120 rfl ?_
    obtain ⟨_, b12, hf⟩ := Option.bind_eq_some_iff.mp hf
    refine x_cnI hf (e_stV (Yc := YX33_isAwaited) (ci := 32) (av := [.int x10]) (st := []) dX33_write_123 q3441 mX33_isAwaited rfl (k_ok_some b12).1 (k_ok_some b12).2) mX33_isAwaited.2.2.1 mX33_isAwaited.2.2.2.2.1 (Nat.le_of_ble_eq_true rfl) (Nat.le_of_ble_eq_true rfl) (fun q hq => pX33_isAwaited (by omega) hq) (fun q13 hf => ?_)
    refine w_if_ne 152 dX33_write_126 (by decide) (fun c14 => ?_) (fun c14 => ?_)
    · replace hf := (if_pos (show ¬ q13.1 = 0 from c14)).symm.trans hf
      exact (pX33_write_b152 hd hf).to ⟨rfl, rfl, rfl, trivial⟩
    · replace hf := (if_neg (show ¬ (¬ q13.1 = 0) from (fun z => z c14))).symm.trans hf
      refine w_aload_n dX33_write_129 rfl rfl ?_
      refine w_aload_n dX33_write_130 rfl rfl ?_
      obtain ⟨x15, b16, hf⟩ := Option.bind_eq_some_iff.mp hf
      refine GX33_31 b16 dX33_write_131 rfl ?_
      obtain ⟨h17, b18, hf⟩ := Option.bind_eq_some_iff.mp hf
      refine SX33_37 b18 dX33_write_134 rfl ?_
      refine w_aload_n dX33_write_137 rfl rfl ?_
      refine w_aload_n dX33_write_138 rfl rfl ?_
      obtain ⟨x19, b20, hf⟩ := Option.bind_eq_some_iff.mp hf
      refine GX33_25 b20 dX33_write_139 rfl ?_
      refine w_bipush dX33_write_142 (v := 6) (by decide) ?_
      refine w_iadd dX33_write_144 ?_
      refine w_iload_n dX33_write_145 rfl rfl ?_
      obtain ⟨_, b21, hf⟩ := Option.bind_eq_some_iff.mp hf
      refine x_cnV hf (e_stV (Yc := YX32_shortest) (ci := 31) (av := [.int (x19 + (6 : Int32)), .int l1]) (st := []) dX33_write_146 q3445 mX32_shortest rfl (k_ok_some b21).1 (k_ok_some b21).2) mX32_shortest.2.2.1 mX32_shortest.2.2.2.2.1 (Nat.le_of_ble_eq_true rfl) (Nat.le_of_ble_eq_true rfl) (fun q hq => pX32_shortest (by omega) hq) (fun q22 hf => ?_)
      refine w_goto 161 dX33_write_149 (by decide) ?_
      exact (pX33_write_b161 hd hf).to ⟨rfl, trivial⟩
def fX33_write (N : Nat) (this : Nat) (p0 : Int32) (p1 : Nat) (h : eH) : Option (Unit × eH) :=
  if ¬ p0 = 0 then
    (g_I 32 h this 6).bind fun x2 =>
    (k_ok 32 h this).bind fun _ =>
    (fX33_is this x2 p0 h).bind fun q5 =>
    if q5.1 = 0 then
      (g_I 32 q5.2 this 7).bind fun x7 =>
      (k_ok 32 q5.2 this).bind fun _ =>
      (fX33_is this x7 p0 q5.2).bind fun q10 =>
      if q10.1 = 0 then
        (g_A 32 q10.2 this 3).bind fun a12 =>
        (g_I 32 q10.2 this 5).bind fun x14 =>
        (r_I 100 q10.2 a12 x14).bind fun x16 =>
        (g_I 32 q10.2 this 5).bind fun x18 =>
        if x16 ≤ x18 then
          fX33_write_b102 N this p0 p1 q10.2
        else
          (g_I 32 q10.2 this 6).bind fun x21 =>
          (k_ok 32 q10.2 this).bind fun _ =>
          (fX33_isAwaited this x21 q10.2).bind fun q24 =>
          if ¬ q24.1 = 0 then
            fX33_write_b102 N this p0 p1 q24.2
          else
            (g_I 32 q24.2 this 5).bind fun x26 =>
            (p_V 32 q24.2 this 6 (.int x26)).bind fun h28 =>
            (g_I 32 h28 this 0).bind fun x30 =>
            (k_ok 31 h28 p1).bind fun _ =>
            (fX32_shortest N p1 (x30 + (1 : Int32)) p0 h28).bind fun q33 =>
            fX33_write_b161 N this q33.2
      else
        (g_I 32 q10.2 this 0).bind fun x34 =>
        (k_ok 31 q10.2 p1).bind fun _ =>
        (fX32_add p1 (x34 + (5 : Int32)) q10.2).bind fun q37 =>
        fX33_write_b161 N this q37.2
    else
      (g_I 32 q5.2 this 0).bind fun x38 =>
      (k_ok 31 q5.2 p1).bind fun _ =>
      (fX32_add p1 x38 q5.2).bind fun q41 =>
      fX33_write_b161 N this q41.2
  else
    some ((), h)
theorem pX33_write {w : eW} {d : Nat} (hd : 3 ≤ d) {N : Nat} {this : Nat} {p0 : Int32} {p1 : Nat} {h : eH} {q} (hf : fX33_write N this p0 p1 h = some q) : wm w d YX33_write [.ref this, .int p0, .ref p1] h (e_is (e_rn c_V q)) := by
  obtain ⟨d, rfl⟩ : ∃ e, d = e + 1 := ⟨d - 1, by omega⟩
  show wp w (d + 1) YX33_write 0 [some (.ref this), some (.int p0), some (.ref p1)] [] h _
  unfold fX33_write at hf
  refine w_iload_n dX33_write_0 rfl rfl ?_
  refine w_if_ne 5 dX33_write_1 (by decide) (fun c1 => ?_) (fun c1 => ?_)
  · replace hf := (if_pos (show ¬ p0 = 0 from c1)).symm.trans hf
    refine w_aload_n dX33_write_5 rfl rfl ?_
    refine w_aload_n dX33_write_6 rfl rfl ?_
    obtain ⟨x2, b3, hf⟩ := Option.bind_eq_some_iff.mp hf
    refine GX33_34 b3 dX33_write_7 rfl ?_
    refine w_iload_n dX33_write_10 rfl rfl ?_
    obtain ⟨_, b4, hf⟩ := Option.bind_eq_some_iff.mp hf
    refine x_cnI hf (e_stV (Yc := YX33_is) (ci := 32) (av := [.int x2, .int p0]) (st := []) dX33_write_11 q3436 mX33_is rfl (k_ok_some b4).1 (k_ok_some b4).2) mX33_is.2.2.1 mX33_is.2.2.2.2.1 (Nat.le_of_ble_eq_true rfl) (Nat.le_of_ble_eq_true rfl) (fun q hq => pX33_is (by omega) hq) (fun q5 hf => ?_)
    refine w_if_eq 28 dX33_write_14 (by decide) (fun c6 => ?_) (fun c6 => ?_)
    · replace hf := (if_pos (show q5.1 = 0 from c6)).symm.trans hf
      refine w_aload_n dX33_write_28 rfl rfl ?_
      refine w_aload_n dX33_write_29 rfl rfl ?_
      obtain ⟨x7, b8, hf⟩ := Option.bind_eq_some_iff.mp hf
      refine GX33_37 b8 dX33_write_30 rfl ?_
      refine w_iload_n dX33_write_33 rfl rfl ?_
      obtain ⟨_, b9, hf⟩ := Option.bind_eq_some_iff.mp hf
      refine x_cnI hf (e_stV (Yc := YX33_is) (ci := 32) (av := [.int x7, .int p0]) (st := []) dX33_write_34 q3436 mX33_is rfl (k_ok_some b9).1 (k_ok_some b9).2) mX33_is.2.2.1 mX33_is.2.2.2.2.1 (Nat.le_of_ble_eq_true rfl) (Nat.le_of_ble_eq_true rfl) (fun q hq => pX33_is (by omega) hq) (fun q10 hf => ?_)
      refine w_if_eq 53 dX33_write_37 (by decide) (fun c11 => ?_) (fun c11 => ?_)
      · replace hf := (if_pos (show q10.1 = 0 from c11)).symm.trans hf
        refine w_aload_n dX33_write_53 rfl rfl ?_
        obtain ⟨a12, b13, hf⟩ := Option.bind_eq_some_iff.mp hf
        refine GX33_15 b13 dX33_write_54 rfl ?_
        refine w_aload_n dX33_write_57 rfl rfl ?_
        obtain ⟨x14, b15, hf⟩ := Option.bind_eq_some_iff.mp hf
        refine GX33_31 b15 dX33_write_58 rfl ?_
        obtain ⟨x16, b17, hf⟩ := Option.bind_eq_some_iff.mp hf
        refine x_rI b17 dX33_write_61 ?_
        refine w_aload_n dX33_write_62 rfl rfl ?_
        obtain ⟨x18, b19, hf⟩ := Option.bind_eq_some_iff.mp hf
        refine GX33_31 b19 dX33_write_63 rfl ?_
        refine w_icmp_le 102 dX33_write_66 (by decide) (fun c20 => ?_) (fun c20 => ?_)
        · replace hf := (if_pos (show x16 ≤ x18 from c20)).symm.trans hf
          exact (pX33_write_b102 hd hf).to ⟨rfl, rfl, rfl, trivial⟩
        · replace hf := (if_neg (show ¬ (x16 ≤ x18) from c20)).symm.trans hf
          refine w_aload_n dX33_write_69 rfl rfl ?_
          refine w_aload_n dX33_write_70 rfl rfl ?_
          obtain ⟨x21, b22, hf⟩ := Option.bind_eq_some_iff.mp hf
          refine GX33_34 b22 dX33_write_71 rfl ?_
          obtain ⟨_, b23, hf⟩ := Option.bind_eq_some_iff.mp hf
          refine x_cnI hf (e_stV (Yc := YX33_isAwaited) (ci := 32) (av := [.int x21]) (st := []) dX33_write_74 q3441 mX33_isAwaited rfl (k_ok_some b23).1 (k_ok_some b23).2) mX33_isAwaited.2.2.1 mX33_isAwaited.2.2.2.2.1 (Nat.le_of_ble_eq_true rfl) (Nat.le_of_ble_eq_true rfl) (fun q hq => pX33_isAwaited (by omega) hq) (fun q24 hf => ?_)
          refine w_if_ne 102 dX33_write_77 (by decide) (fun c25 => ?_) (fun c25 => ?_)
          · replace hf := (if_pos (show ¬ q24.1 = 0 from c25)).symm.trans hf
            exact (pX33_write_b102 hd hf).to ⟨rfl, rfl, rfl, trivial⟩
          · replace hf := (if_neg (show ¬ (¬ q24.1 = 0) from (fun z => z c25))).symm.trans hf
            refine w_aload_n dX33_write_80 rfl rfl ?_
            refine w_aload_n dX33_write_81 rfl rfl ?_
            obtain ⟨x26, b27, hf⟩ := Option.bind_eq_some_iff.mp hf
            refine GX33_31 b27 dX33_write_82 rfl ?_
            obtain ⟨h28, b29, hf⟩ := Option.bind_eq_some_iff.mp hf
            refine SX33_34 b29 dX33_write_85 rfl ?_
            refine w_aload_n dX33_write_88 rfl rfl ?_
            refine w_aload_n dX33_write_89 rfl rfl ?_
            obtain ⟨x30, b31, hf⟩ := Option.bind_eq_some_iff.mp hf
            refine GX33_25 b31 dX33_write_90 rfl ?_
            refine w_iconst dX33_write_93 (v := 1) (by decide) ?_
            refine w_iadd dX33_write_94 ?_
            refine w_iload_n dX33_write_95 rfl rfl ?_
            obtain ⟨_, b32, hf⟩ := Option.bind_eq_some_iff.mp hf
            refine x_cnV hf (e_stV (Yc := YX32_shortest) (ci := 31) (av := [.int (x30 + (1 : Int32)), .int p0]) (st := []) dX33_write_96 q3445 mX32_shortest rfl (k_ok_some b32).1 (k_ok_some b32).2) mX32_shortest.2.2.1 mX32_shortest.2.2.2.2.1 (Nat.le_of_ble_eq_true rfl) (Nat.le_of_ble_eq_true rfl) (fun q hq => pX32_shortest (by omega) hq) (fun q33 hf => ?_)
            refine w_goto 161 dX33_write_99 (by decide) ?_
            exact (pX33_write_b161 hd hf).to ⟨rfl, trivial⟩
      · replace hf := (if_neg (show ¬ (q10.1 = 0) from c11)).symm.trans hf
        refine w_aload_n dX33_write_40 rfl rfl ?_
        refine w_aload_n dX33_write_41 rfl rfl ?_
        obtain ⟨x34, b35, hf⟩ := Option.bind_eq_some_iff.mp hf
        refine GX33_25 b35 dX33_write_42 rfl ?_
        refine w_iconst dX33_write_45 (v := 5) (by decide) ?_
        refine w_iadd dX33_write_46 ?_
        obtain ⟨_, b36, hf⟩ := Option.bind_eq_some_iff.mp hf
        refine x_cnV hf (e_stV (Yc := YX32_add) (ci := 31) (av := [.int (x34 + (5 : Int32))]) (st := []) dX33_write_47 q3440 mX32_add rfl (k_ok_some b36).1 (k_ok_some b36).2) mX32_add.2.2.1 mX32_add.2.2.2.2.1 (Nat.le_of_ble_eq_true rfl) (Nat.le_of_ble_eq_true rfl) (fun q hq => pX32_add (by omega) hq) (fun q37 hf => ?_)
        refine w_goto 161 dX33_write_50 (by decide) ?_
        exact (pX33_write_b161 hd hf).to ⟨rfl, trivial⟩
    · replace hf := (if_neg (show ¬ (q5.1 = 0) from c6)).symm.trans hf
      refine w_aload_n dX33_write_17 rfl rfl ?_
      refine w_aload_n dX33_write_18 rfl rfl ?_
      obtain ⟨x38, b39, hf⟩ := Option.bind_eq_some_iff.mp hf
      refine GX33_25 b39 dX33_write_19 rfl ?_
      obtain ⟨_, b40, hf⟩ := Option.bind_eq_some_iff.mp hf
      refine x_cnV hf (e_stV (Yc := YX32_add) (ci := 31) (av := [.int x38]) (st := []) dX33_write_22 q3440 mX32_add rfl (k_ok_some b40).1 (k_ok_some b40).2) mX32_add.2.2.1 mX32_add.2.2.2.2.1 (Nat.le_of_ble_eq_true rfl) (Nat.le_of_ble_eq_true rfl) (fun q hq => pX32_add (by omega) hq) (fun q41 hf => ?_)
      refine w_goto 161 dX33_write_25 (by decide) ?_
      exact (pX33_write_b161 hd hf).to ⟨rfl, trivial⟩
  · replace hf := (if_neg (show ¬ (¬ p0 = 0) from (fun z => z c1))).symm.trans hf
    cases hf
    exact w_vret dX33_write_4 rfl rfl
abbrev cX5_define : ByteArray := prog_9_method_9_code
def yX5_define : MethodName := ⟨RX5, "define", "(ILTypeHouse$FileBytes;)V"⟩
def YX5_define : eY := (yX5_define, cX5_define, 4, none, [])
theorem mX5_define : e_mv YX5_define RX5 2 := ⟨q3458, q3459, q3460, by decide, by decide +kernel, (e_sig (by decide +kernel))⟩
theorem dX5_define_0 : decode cX5_define 0 = .ok (.aload_n 0, 1) := dc_42 (by decide +kernel)
theorem dX5_define_1 : decode cX5_define 1 = .ok (.getfield 19, 3) := dc_180 (a := 0) (b := 19) (n := 19) (by decide +kernel)
theorem dX5_define_4 : decode cX5_define 4 = .ok (.iload_n 1, 1) := dc_27 (by decide +kernel)
theorem dX5_define_5 : decode cX5_define 5 = .ok (.aaload, 1) := dc_50 (by decide +kernel)
theorem dX5_define_6 : decode cX5_define 6 = .ok (.astore_n 3, 1) := dc_78 (by decide +kernel)
theorem dX5_define_7 : decode cX5_define 7 = .ok (.aload_n 2, 1) := dc_44 (by decide +kernel)
theorem dX5_define_8 : decode cX5_define 8 = .ok (.sipush 243, 3) := dc_17 (a := 0) (b := 243) (v := 243) (by decide +kernel)
theorem dX5_define_11 : decode cX5_define 11 = .ok (.invokevirtual 91, 3) := dc_182 (a := 0) (b := 91) (n := 91) (by decide +kernel)
theorem dX5_define_14 : decode cX5_define 14 = .ok (.aload_n 2, 1) := dc_44 (by decide +kernel)
theorem dX5_define_15 : decode cX5_define 15 = .ok (.iload_n 1, 1) := dc_27 (by decide +kernel)
theorem dX5_define_16 : decode cX5_define 16 = .ok (.invokevirtual 91, 3) := dc_182 (a := 0) (b := 91) (n := 91) (by decide +kernel)
theorem dX5_define_19 : decode cX5_define 19 = .ok (.aload_n 2, 1) := dc_44 (by decide +kernel)
theorem dX5_define_20 : decode cX5_define 20 = .ok (.aload_n 3, 1) := dc_45 (by decide +kernel)
theorem dX5_define_21 : decode cX5_define 21 = .ok (.iconst 0, 1) := dc_3 (by decide +kernel)
theorem dX5_define_22 : decode cX5_define 22 = .ok (.iconst 0, 1) := dc_3 (by decide +kernel)
theorem dX5_define_23 : decode cX5_define 23 = .ok (.invokevirtual 97, 3) := dc_182 (a := 0) (b := 97) (n := 97) (by decide +kernel)
theorem dX5_define_26 : decode cX5_define 26 = .ok (.iconst 4, 1) := dc_7 (by decide +kernel)
theorem dX5_define_27 : decode cX5_define 27 = .ok (.invokevirtual 100, 3) := dc_182 (a := 0) (b := 100) (n := 100) (by decide +kernel)
theorem dX5_define_30 : decode cX5_define 30 = .ok (.aload_n 2, 1) := dc_44 (by decide +kernel)
theorem dX5_define_31 : decode cX5_define 31 = .ok (.aload_n 3, 1) := dc_45 (by decide +kernel)
theorem dX5_define_32 : decode cX5_define 32 = .ok (.getfield 72, 3) := dc_180 (a := 0) (b := 72) (n := 72) (by decide +kernel)
theorem dX5_define_35 : decode cX5_define 35 = .ok (.iconst 4, 1) := dc_7 (by decide +kernel)
theorem dX5_define_36 : decode cX5_define 36 = .ok (.invokevirtual 100, 3) := dc_182 (a := 0) (b := 100) (n := 100) (by decide +kernel)
theorem dX5_define_39 : decode cX5_define 39 = .ok (.aload_n 2, 1) := dc_44 (by decide +kernel)
theorem dX5_define_40 : decode cX5_define 40 = .ok (.aload_n 3, 1) := dc_45 (by decide +kernel)
theorem dX5_define_41 : decode cX5_define 41 = .ok (.getfield 104, 3) := dc_180 (a := 0) (b := 104) (n := 104) (by decide +kernel)
theorem dX5_define_44 : decode cX5_define 44 = .ok (.iconst 4, 1) := dc_7 (by decide +kernel)
theorem dX5_define_45 : decode cX5_define 45 = .ok (.invokevirtual 100, 3) := dc_182 (a := 0) (b := 100) (n := 100) (by decide +kernel)
theorem dX5_define_48 : decode cX5_define 48 = .ok (.aload_n 2, 1) := dc_44 (by decide +kernel)
theorem dX5_define_49 : decode cX5_define 49 = .ok (.iconst 0, 1) := dc_3 (by decide +kernel)
theorem dX5_define_50 : decode cX5_define 50 = .ok (.invokevirtual 91, 3) := dc_182 (a := 0) (b := 91) (n := 91) (by decide +kernel)
theorem dX5_define_53 : decode cX5_define 53 = .ok (.aload_n 2, 1) := dc_44 (by decide +kernel)
theorem dX5_define_54 : decode cX5_define 54 = .ok (.aload_n 0, 1) := dc_42 (by decide +kernel)
theorem dX5_define_55 : decode cX5_define 55 = .ok (.getfield 23, 3) := dc_180 (a := 0) (b := 23) (n := 23) (by decide +kernel)
theorem dX5_define_58 : decode cX5_define 58 = .ok (.iload_n 1, 1) := dc_27 (by decide +kernel)
theorem dX5_define_59 : decode cX5_define 59 = .ok (.iaload, 1) := dc_46 (by decide +kernel)
theorem dX5_define_60 : decode cX5_define 60 = .ok (.bipush 9, 2) := dc_16 (a := 9) (v := 9) (by decide +kernel)
theorem dX5_define_62 : decode cX5_define 62 = .ok (.if_icmp .le 8, 3) := dc_164 (a := 0) (b := 8) (v := 8) (by decide +kernel)
theorem dX5_define_65 : decode cX5_define 65 = .ok (.bipush 6, 2) := dc_16 (a := 6) (v := 6) (by decide +kernel)
theorem dX5_define_67 : decode cX5_define 67 = .ok (.goto 4, 3) := dc_167 (a := 0) (b := 4) (v := 4) (by decide +kernel)
theorem dX5_define_70 : decode cX5_define 70 = .ok (.iconst 5, 1) := dc_8 (by decide +kernel)
theorem dX5_define_71 : decode cX5_define 71 = .ok (.invokevirtual 91, 3) := dc_182 (a := 0) (b := 91) (n := 91) (by decide +kernel)
theorem dX5_define_74 : decode cX5_define 74 = .ok (.aload_n 2, 1) := dc_44 (by decide +kernel)
theorem dX5_define_75 : decode cX5_define 75 = .ok (.bipush 102, 2) := dc_16 (a := 102) (v := 102) (by decide +kernel)
theorem dX5_define_77 : decode cX5_define 77 = .ok (.invokevirtual 91, 3) := dc_182 (a := 0) (b := 91) (n := 91) (by decide +kernel)
theorem dX5_define_80 : decode cX5_define 80 = .ok (.aload_n 2, 1) := dc_44 (by decide +kernel)
theorem dX5_define_81 : decode cX5_define 81 = .ok (.bipush 111, 2) := dc_16 (a := 111) (v := 111) (by decide +kernel)
theorem dX5_define_83 : decode cX5_define 83 = .ok (.invokevirtual 91, 3) := dc_182 (a := 0) (b := 91) (n := 91) (by decide +kernel)
theorem dX5_define_86 : decode cX5_define 86 = .ok (.aload_n 2, 1) := dc_44 (by decide +kernel)
theorem dX5_define_87 : decode cX5_define 87 = .ok (.bipush 110, 2) := dc_16 (a := 110) (v := 110) (by decide +kernel)
theorem dX5_define_89 : decode cX5_define 89 = .ok (.invokevirtual 91, 3) := dc_182 (a := 0) (b := 91) (n := 91) (by decide +kernel)
theorem dX5_define_92 : decode cX5_define 92 = .ok (.aload_n 2, 1) := dc_44 (by decide +kernel)
theorem dX5_define_93 : decode cX5_define 93 = .ok (.bipush 116, 2) := dc_16 (a := 116) (v := 116) (by decide +kernel)
theorem dX5_define_95 : decode cX5_define 95 = .ok (.invokevirtual 91, 3) := dc_182 (a := 0) (b := 91) (n := 91) (by decide +kernel)
theorem dX5_define_98 : decode cX5_define 98 = .ok (.aload_n 0, 1) := dc_42 (by decide +kernel)
theorem dX5_define_99 : decode cX5_define 99 = .ok (.getfield 23, 3) := dc_180 (a := 0) (b := 23) (n := 23) (by decide +kernel)
theorem dX5_define_102 : decode cX5_define 102 = .ok (.iload_n 1, 1) := dc_27 (by decide +kernel)
theorem dX5_define_103 : decode cX5_define 103 = .ok (.iaload, 1) := dc_46 (by decide +kernel)
theorem dX5_define_104 : decode cX5_define 104 = .ok (.bipush 9, 2) := dc_16 (a := 9) (v := 9) (by decide +kernel)
theorem dX5_define_106 : decode cX5_define 106 = .ok (.if_icmp .le 9, 3) := dc_164 (a := 0) (b := 9) (v := 9) (by decide +kernel)
theorem dX5_define_109 : decode cX5_define 109 = .ok (.aload_n 2, 1) := dc_44 (by decide +kernel)
theorem dX5_define_110 : decode cX5_define 110 = .ok (.bipush 49, 2) := dc_16 (a := 49) (v := 49) (by decide +kernel)
theorem dX5_define_112 : decode cX5_define 112 = .ok (.invokevirtual 91, 3) := dc_182 (a := 0) (b := 91) (n := 91) (by decide +kernel)
theorem dX5_define_115 : decode cX5_define 115 = .ok (.aload_n 2, 1) := dc_44 (by decide +kernel)
theorem dX5_define_116 : decode cX5_define 116 = .ok (.bipush 48, 2) := dc_16 (a := 48) (v := 48) (by decide +kernel)
theorem dX5_define_118 : decode cX5_define 118 = .ok (.aload_n 0, 1) := dc_42 (by decide +kernel)
theorem dX5_define_119 : decode cX5_define 119 = .ok (.getfield 23, 3) := dc_180 (a := 0) (b := 23) (n := 23) (by decide +kernel)
theorem dX5_define_122 : decode cX5_define 122 = .ok (.iload_n 1, 1) := dc_27 (by decide +kernel)
theorem dX5_define_123 : decode cX5_define 123 = .ok (.iaload, 1) := dc_46 (by decide +kernel)
theorem dX5_define_124 : decode cX5_define 124 = .ok (.bipush 10, 2) := dc_16 (a := 10) (v := 10) (by decide +kernel)
theorem dX5_define_126 : decode cX5_define 126 = .ok (.irem, 1) := dc_112 (by decide +kernel)
theorem dX5_define_127 : decode cX5_define 127 = .ok (.iadd, 1) := dc_96 (by decide +kernel)
theorem dX5_define_128 : decode cX5_define 128 = .ok (.invokevirtual 91, 3) := dc_182 (a := 0) (b := 91) (n := 91) (by decide +kernel)
theorem dX5_define_131 : decode cX5_define 131 = .ok (.return_, 1) := dc_177 (by decide +kernel)
theorem GX5_104 {w : eW} {d : Nat} {Y : eY} {pc : Nat} {ls : eL} {st : List Value} {h : eH} {Q : eO → eH → Prop} {a : Nat} {x : Int32} (hf : g_I 5 h a 7 = some x) (hd : decode Y.2.1 pc = .ok (.getfield 104, 3)) (hY : Y.1.cls = RX5) (kk : wp w d Y (pc + 3) ls (.int x :: st) h Q) : wp w d Y pc ls (.ref a :: st) h Q := x_gIN (ci := 5) (k := 7) hf hd rfl (by decide) (by rw [hY]; exact q552) kk
theorem GX5_23 {w : eW} {d : Nat} {Y : eY} {pc : Nat} {ls : eL} {st : List Value} {h : eH} {Q : eO → eH → Prop} {a : Nat} {x : Nat} (hf : g_A 4 h a 2 = some x) (hd : decode Y.2.1 pc = .ok (.getfield 23, 3)) (hY : Y.1.cls = RX5) (kk : wp w d Y (pc + 3) ls (.ref x :: st) h Q) : wp w d Y pc ls (.ref a :: st) h Q := x_gA (ci := 4) (k := 2) hf hd rfl (by decide) (by rw [hY]; exact q588) kk
theorem GX5_72 {w : eW} {d : Nat} {Y : eY} {pc : Nat} {ls : eL} {st : List Value} {h : eH} {Q : eO → eH → Prop} {a : Nat} {x : Int32} (hf : g_I 5 h a 6 = some x) (hd : decode Y.2.1 pc = .ok (.getfield 72, 3)) (hY : Y.1.cls = RX5) (kk : wp w d Y (pc + 3) ls (.int x :: st) h Q) : wp w d Y pc ls (.ref a :: st) h Q := x_gIN (ci := 5) (k := 6) hf hd rfl (by decide) (by rw [hY]; exact q550) kk
def fX5_define_b115 (N : Nat) (l0 : Nat) (l1 : Int32) (l2 : Nat) (h : eH) : Option (Unit × eH) :=
  (g_A 4 h l0 2).bind fun a1 =>
  (r_I 100 h a1 l1).bind fun x3 =>
  (k_ok 31 h l2).bind fun _ =>
  (fX32_add l2 ((48 : Int32) + (x3 - x3 / (10 : Int32) * (10 : Int32))) h).bind fun q6 =>
  some ((), q6.2)
theorem pX5_define_b115 {w : eW} {d : Nat} (hd : 2 ≤ d + 1) {N : Nat} {l0 : Nat} {l1 : Int32} {l2 : Nat} {h : eH} {q} (hf : fX5_define_b115 N l0 l1 l2 h = some q) : wp w (d + 1) YX5_define 115 [some (.ref l0), some (.int l1), some (.ref l2), none] [] h (e_is (e_rn c_V q)) := by
  unfold fX5_define_b115 at hf
  refine w_aload_n dX5_define_115 rfl rfl ?_
  refine w_bipush dX5_define_116 (v := 48) (by decide) ?_
  refine w_aload_n dX5_define_118 rfl rfl ?_
  obtain ⟨a1, b2, hf⟩ := Option.bind_eq_some_iff.mp hf
  refine GX5_23 b2 dX5_define_119 rfl ?_
  refine w_iload_n dX5_define_122 rfl rfl ?_
  obtain ⟨x3, b4, hf⟩ := Option.bind_eq_some_iff.mp hf
  refine x_rI b4 dX5_define_123 ?_
  refine w_bipush dX5_define_124 (v := 10) (by decide) ?_
  refine w_irem dX5_define_126 (by decide) ?_
  refine w_iadd dX5_define_127 ?_
  obtain ⟨_, b5, hf⟩ := Option.bind_eq_some_iff.mp hf
  refine x_cnV hf (e_stV (Yc := YX32_add) (ci := 31) (av := [.int ((48 : Int32) + (x3 - x3 / (10 : Int32) * (10 : Int32)))]) (st := []) dX5_define_128 q3461 mX32_add rfl (k_ok_some b5).1 (k_ok_some b5).2) mX32_add.2.2.1 mX32_add.2.2.2.2.1 (Nat.le_of_ble_eq_true rfl) (Nat.le_of_ble_eq_true rfl) (fun q hq => pX32_add (by omega) hq) (fun q6 hf => ?_)
  cases hf
  exact w_vret dX5_define_131 rfl rfl
def fX5_define_b71 (N : Nat) (l0 : Nat) (l1 : Int32) (l2 : Nat) (s0 : Nat) (s1 : Int32) (h : eH) : Option (Unit × eH) :=
  (k_ok 31 h s0).bind fun _ =>
  (fX32_add s0 s1 h).bind fun q2 =>
  (k_ok 31 q2.2 l2).bind fun _ =>
  (fX32_add l2 (102 : Int32) q2.2).bind fun q4 =>
  (k_ok 31 q4.2 l2).bind fun _ =>
  (fX32_add l2 (111 : Int32) q4.2).bind fun q6 =>
  (k_ok 31 q6.2 l2).bind fun _ =>
  (fX32_add l2 (110 : Int32) q6.2).bind fun q8 =>
  (k_ok 31 q8.2 l2).bind fun _ =>
  (fX32_add l2 (116 : Int32) q8.2).bind fun q10 =>
  (g_A 4 q10.2 l0 2).bind fun a11 =>
  (r_I 100 q10.2 a11 l1).bind fun x13 =>
  if x13 ≤ (9 : Int32) then
    fX5_define_b115 N l0 l1 l2 q10.2
  else
    (k_ok 31 q10.2 l2).bind fun _ =>
    (fX32_add l2 (49 : Int32) q10.2).bind fun q17 =>
    fX5_define_b115 N l0 l1 l2 q17.2
theorem pX5_define_b71 {w : eW} {d : Nat} (hd : 2 ≤ d + 1) {N : Nat} {l0 : Nat} {l1 : Int32} {l2 : Nat} {s0 : Nat} {s1 : Int32} {h : eH} {q} (hf : fX5_define_b71 N l0 l1 l2 s0 s1 h = some q) : wp w (d + 1) YX5_define 71 [some (.ref l0), some (.int l1), some (.ref l2), none] [.int s1, .ref s0] h (e_is (e_rn c_V q)) := by
  unfold fX5_define_b71 at hf
  obtain ⟨_, b1, hf⟩ := Option.bind_eq_some_iff.mp hf
  refine x_cnV hf (e_stV (Yc := YX32_add) (ci := 31) (av := [.int s1]) (st := []) dX5_define_71 q3461 mX32_add rfl (k_ok_some b1).1 (k_ok_some b1).2) mX32_add.2.2.1 mX32_add.2.2.2.2.1 (Nat.le_of_ble_eq_true rfl) (Nat.le_of_ble_eq_true rfl) (fun q hq => pX32_add (by omega) hq) (fun q2 hf => ?_)
  refine w_aload_n dX5_define_74 rfl rfl ?_
  refine w_bipush dX5_define_75 (v := 102) (by decide) ?_
  obtain ⟨_, b3, hf⟩ := Option.bind_eq_some_iff.mp hf
  refine x_cnV hf (e_stV (Yc := YX32_add) (ci := 31) (av := [.int (102 : Int32)]) (st := []) dX5_define_77 q3461 mX32_add rfl (k_ok_some b3).1 (k_ok_some b3).2) mX32_add.2.2.1 mX32_add.2.2.2.2.1 (Nat.le_of_ble_eq_true rfl) (Nat.le_of_ble_eq_true rfl) (fun q hq => pX32_add (by omega) hq) (fun q4 hf => ?_)
  refine w_aload_n dX5_define_80 rfl rfl ?_
  refine w_bipush dX5_define_81 (v := 111) (by decide) ?_
  obtain ⟨_, b5, hf⟩ := Option.bind_eq_some_iff.mp hf
  refine x_cnV hf (e_stV (Yc := YX32_add) (ci := 31) (av := [.int (111 : Int32)]) (st := []) dX5_define_83 q3461 mX32_add rfl (k_ok_some b5).1 (k_ok_some b5).2) mX32_add.2.2.1 mX32_add.2.2.2.2.1 (Nat.le_of_ble_eq_true rfl) (Nat.le_of_ble_eq_true rfl) (fun q hq => pX32_add (by omega) hq) (fun q6 hf => ?_)
  refine w_aload_n dX5_define_86 rfl rfl ?_
  refine w_bipush dX5_define_87 (v := 110) (by decide) ?_
  obtain ⟨_, b7, hf⟩ := Option.bind_eq_some_iff.mp hf
  refine x_cnV hf (e_stV (Yc := YX32_add) (ci := 31) (av := [.int (110 : Int32)]) (st := []) dX5_define_89 q3461 mX32_add rfl (k_ok_some b7).1 (k_ok_some b7).2) mX32_add.2.2.1 mX32_add.2.2.2.2.1 (Nat.le_of_ble_eq_true rfl) (Nat.le_of_ble_eq_true rfl) (fun q hq => pX32_add (by omega) hq) (fun q8 hf => ?_)
  refine w_aload_n dX5_define_92 rfl rfl ?_
  refine w_bipush dX5_define_93 (v := 116) (by decide) ?_
  obtain ⟨_, b9, hf⟩ := Option.bind_eq_some_iff.mp hf
  refine x_cnV hf (e_stV (Yc := YX32_add) (ci := 31) (av := [.int (116 : Int32)]) (st := []) dX5_define_95 q3461 mX32_add rfl (k_ok_some b9).1 (k_ok_some b9).2) mX32_add.2.2.1 mX32_add.2.2.2.2.1 (Nat.le_of_ble_eq_true rfl) (Nat.le_of_ble_eq_true rfl) (fun q hq => pX32_add (by omega) hq) (fun q10 hf => ?_)
  refine w_aload_n dX5_define_98 rfl rfl ?_
  obtain ⟨a11, b12, hf⟩ := Option.bind_eq_some_iff.mp hf
  refine GX5_23 b12 dX5_define_99 rfl ?_
  refine w_iload_n dX5_define_102 rfl rfl ?_
  obtain ⟨x13, b14, hf⟩ := Option.bind_eq_some_iff.mp hf
  refine x_rI b14 dX5_define_103 ?_
  refine w_bipush dX5_define_104 (v := 9) (by decide) ?_
  refine w_icmp_le 115 dX5_define_106 (by decide) (fun c15 => ?_) (fun c15 => ?_)
  · replace hf := (if_pos (show x13 ≤ (9 : Int32) from c15)).symm.trans hf
    exact (pX5_define_b115 hd hf).to ⟨rfl, rfl, rfl, trivial⟩
  · replace hf := (if_neg (show ¬ (x13 ≤ (9 : Int32)) from c15)).symm.trans hf
    refine w_aload_n dX5_define_109 rfl rfl ?_
    refine w_bipush dX5_define_110 (v := 49) (by decide) ?_
    obtain ⟨_, b16, hf⟩ := Option.bind_eq_some_iff.mp hf
    refine x_cnV hf (e_stV (Yc := YX32_add) (ci := 31) (av := [.int (49 : Int32)]) (st := []) dX5_define_112 q3461 mX32_add rfl (k_ok_some b16).1 (k_ok_some b16).2) mX32_add.2.2.1 mX32_add.2.2.2.2.1 (Nat.le_of_ble_eq_true rfl) (Nat.le_of_ble_eq_true rfl) (fun q hq => pX32_add (by omega) hq) (fun q17 hf => ?_)
    exact (pX5_define_b115 hd hf).to ⟨rfl, rfl, rfl, trivial⟩
def fX5_define (N : Nat) (this : Nat) (p0 : Int32) (p1 : Nat) (h : eH) : Option (Unit × eH) :=
  (g_A 4 h this 1).bind fun a1 =>
  (r_A 105 h a1 p0).bind fun a3 =>
  (k_ok 31 h p1).bind fun _ =>
  (fX32_add p1 (243 : Int32) h).bind fun q6 =>
  (k_ok 31 q6.2 p1).bind fun _ =>
  (fX32_add p1 p0 q6.2).bind fun q8 =>
  (k_ok 5 q8.2 a3).bind fun _ =>
  (fX6_word a3 (0 : Int32) (0 : Int32) q8.2).bind fun q10 =>
  (k_ok 31 q10.2 p1).bind fun _ =>
  (fX32_number N p1 q10.1 (4 : Int32) q10.2).bind fun q12 =>
  (g_I 5 q12.2 a3 6).bind fun x13 =>
  (k_ok 31 q12.2 p1).bind fun _ =>
  (fX32_number N p1 x13 (4 : Int32) q12.2).bind fun q16 =>
  (g_I 5 q16.2 a3 7).bind fun x17 =>
  (k_ok 31 q16.2 p1).bind fun _ =>
  (fX32_number N p1 x17 (4 : Int32) q16.2).bind fun q20 =>
  (k_ok 31 q20.2 p1).bind fun _ =>
  (fX32_add p1 (0 : Int32) q20.2).bind fun q22 =>
  (g_A 4 q22.2 this 2).bind fun a23 =>
  (r_I 100 q22.2 a23 p0).bind fun x25 =>
  if x25 ≤ (9 : Int32) then
    fX5_define_b71 N this p0 p1 p1 (5 : Int32) q22.2
  else
    fX5_define_b71 N this p0 p1 p1 (6 : Int32) q22.2
theorem pX5_define {w : eW} {d : Nat} (hd : 2 ≤ d) {N : Nat} {this : Nat} {p0 : Int32} {p1 : Nat} {h : eH} {q} (hf : fX5_define N this p0 p1 h = some q) : wm w d YX5_define [.ref this, .int p0, .ref p1] h (e_is (e_rn c_V q)) := by
  obtain ⟨d, rfl⟩ : ∃ e, d = e + 1 := ⟨d - 1, by omega⟩
  show wp w (d + 1) YX5_define 0 [some (.ref this), some (.int p0), some (.ref p1), none] [] h _
  unfold fX5_define at hf
  refine w_aload_n dX5_define_0 rfl rfl ?_
  obtain ⟨a1, b2, hf⟩ := Option.bind_eq_some_iff.mp hf
  refine GX5_19 b2 dX5_define_1 rfl ?_
  refine w_iload_n dX5_define_4 rfl rfl ?_
  obtain ⟨a3, b4, hf⟩ := Option.bind_eq_some_iff.mp hf
  refine x_rA (c := 105) (by decide) b4 dX5_define_5 ?_
  refine w_astore_n dX5_define_6 rfl (by decide) (ls' := [some (.ref this), some (.int p0), some (.ref p1), some (.ref a3)]) rfl ?_
  refine w_aload_n dX5_define_7 rfl rfl ?_
  refine w_sipush dX5_define_8 (v := 243) (by decide) ?_
  obtain ⟨_, b5, hf⟩ := Option.bind_eq_some_iff.mp hf
  refine x_cnV hf (e_stV (Yc := YX32_add) (ci := 31) (av := [.int (243 : Int32)]) (st := []) dX5_define_11 q3461 mX32_add rfl (k_ok_some b5).1 (k_ok_some b5).2) mX32_add.2.2.1 mX32_add.2.2.2.2.1 (Nat.le_of_ble_eq_true rfl) (Nat.le_of_ble_eq_true rfl) (fun q hq => pX32_add (by omega) hq) (fun q6 hf => ?_)
  refine w_aload_n dX5_define_14 rfl rfl ?_
  refine w_iload_n dX5_define_15 rfl rfl ?_
  obtain ⟨_, b7, hf⟩ := Option.bind_eq_some_iff.mp hf
  refine x_cnV hf (e_stV (Yc := YX32_add) (ci := 31) (av := [.int p0]) (st := []) dX5_define_16 q3461 mX32_add rfl (k_ok_some b7).1 (k_ok_some b7).2) mX32_add.2.2.1 mX32_add.2.2.2.2.1 (Nat.le_of_ble_eq_true rfl) (Nat.le_of_ble_eq_true rfl) (fun q hq => pX32_add (by omega) hq) (fun q8 hf => ?_)
  refine w_aload_n dX5_define_19 rfl rfl ?_
  refine w_aload_n dX5_define_20 rfl rfl ?_
  refine w_iconst dX5_define_21 (v := 0) (by decide) ?_
  refine w_iconst dX5_define_22 (v := 0) (by decide) ?_
  obtain ⟨_, b9, hf⟩ := Option.bind_eq_some_iff.mp hf
  refine x_cnI hf (e_stVN (Yc := YX6_word) (ci := 5) (av := [.int (0 : Int32), .int (0 : Int32)]) (st := [.ref p1]) dX5_define_23 q3462 mX6_word rfl (k_ok_some b9).1 (k_ok_some b9).2) mX6_word.2.2.1 mX6_word.2.2.2.2.1 (Nat.le_of_ble_eq_true rfl) (Nat.le_of_ble_eq_true rfl) (fun q hq => pX6_word (by omega) hq) (fun q10 hf => ?_)
  refine w_iconst dX5_define_26 (v := 4) (by decide) ?_
  obtain ⟨_, b11, hf⟩ := Option.bind_eq_some_iff.mp hf
  refine x_cnV hf (e_stV (Yc := YX32_number) (ci := 31) (av := [.int q10.1, .int (4 : Int32)]) (st := []) dX5_define_27 q3463 mX32_number rfl (k_ok_some b11).1 (k_ok_some b11).2) mX32_number.2.2.1 mX32_number.2.2.2.2.1 (Nat.le_of_ble_eq_true rfl) (Nat.le_of_ble_eq_true rfl) (fun q hq => pX32_number (by omega) hq) (fun q12 hf => ?_)
  refine w_aload_n dX5_define_30 rfl rfl ?_
  refine w_aload_n dX5_define_31 rfl rfl ?_
  obtain ⟨x13, b14, hf⟩ := Option.bind_eq_some_iff.mp hf
  refine GX5_72 b14 dX5_define_32 rfl ?_
  refine w_iconst dX5_define_35 (v := 4) (by decide) ?_
  obtain ⟨_, b15, hf⟩ := Option.bind_eq_some_iff.mp hf
  refine x_cnV hf (e_stV (Yc := YX32_number) (ci := 31) (av := [.int x13, .int (4 : Int32)]) (st := []) dX5_define_36 q3463 mX32_number rfl (k_ok_some b15).1 (k_ok_some b15).2) mX32_number.2.2.1 mX32_number.2.2.2.2.1 (Nat.le_of_ble_eq_true rfl) (Nat.le_of_ble_eq_true rfl) (fun q hq => pX32_number (by omega) hq) (fun q16 hf => ?_)
  refine w_aload_n dX5_define_39 rfl rfl ?_
  refine w_aload_n dX5_define_40 rfl rfl ?_
  obtain ⟨x17, b18, hf⟩ := Option.bind_eq_some_iff.mp hf
  refine GX5_104 b18 dX5_define_41 rfl ?_
  refine w_iconst dX5_define_44 (v := 4) (by decide) ?_
  obtain ⟨_, b19, hf⟩ := Option.bind_eq_some_iff.mp hf
  refine x_cnV hf (e_stV (Yc := YX32_number) (ci := 31) (av := [.int x17, .int (4 : Int32)]) (st := []) dX5_define_45 q3463 mX32_number rfl (k_ok_some b19).1 (k_ok_some b19).2) mX32_number.2.2.1 mX32_number.2.2.2.2.1 (Nat.le_of_ble_eq_true rfl) (Nat.le_of_ble_eq_true rfl) (fun q hq => pX32_number (by omega) hq) (fun q20 hf => ?_)
  refine w_aload_n dX5_define_48 rfl rfl ?_
  refine w_iconst dX5_define_49 (v := 0) (by decide) ?_
  obtain ⟨_, b21, hf⟩ := Option.bind_eq_some_iff.mp hf
  refine x_cnV hf (e_stV (Yc := YX32_add) (ci := 31) (av := [.int (0 : Int32)]) (st := []) dX5_define_50 q3461 mX32_add rfl (k_ok_some b21).1 (k_ok_some b21).2) mX32_add.2.2.1 mX32_add.2.2.2.2.1 (Nat.le_of_ble_eq_true rfl) (Nat.le_of_ble_eq_true rfl) (fun q hq => pX32_add (by omega) hq) (fun q22 hf => ?_)
  refine w_aload_n dX5_define_53 rfl rfl ?_
  refine w_aload_n dX5_define_54 rfl rfl ?_
  obtain ⟨a23, b24, hf⟩ := Option.bind_eq_some_iff.mp hf
  refine GX5_23 b24 dX5_define_55 rfl ?_
  refine w_iload_n dX5_define_58 rfl rfl ?_
  obtain ⟨x25, b26, hf⟩ := Option.bind_eq_some_iff.mp hf
  refine x_rI b26 dX5_define_59 ?_
  refine w_bipush dX5_define_60 (v := 9) (by decide) ?_
  refine w_icmp_le 70 dX5_define_62 (by decide) (fun c27 => ?_) (fun c27 => ?_)
  · replace hf := (if_pos (show x25 ≤ (9 : Int32) from c27)).symm.trans hf
    refine w_iconst dX5_define_70 (v := 5) (by decide) ?_
    exact (pX5_define_b71 hd hf).to ⟨rfl, rfl, rfl, trivial⟩
  · replace hf := (if_neg (show ¬ (x25 ≤ (9 : Int32)) from c27)).symm.trans hf
    refine w_bipush dX5_define_65 (v := 6) (by decide) ?_
    refine w_goto 71 dX5_define_67 (by decide) ?_
    exact (pX5_define_b71 hd hf).to ⟨rfl, rfl, rfl, trivial⟩
abbrev cX5_use : ByteArray := prog_9_method_7_code
def yX5_use : MethodName := ⟨RX5, "use", "(I)V"⟩
def YX5_use : eY := (yX5_use, cX5_use, 2, none, [])
theorem mX5_use : e_mv YX5_use RX5 1 := ⟨q3465, q3466, q3467, by decide, by decide +kernel, (e_sig (by decide +kernel))⟩
theorem dX5_use_0 : decode cX5_use 0 = .ok (.aload_n 0, 1) := dc_42 (by decide +kernel)
theorem dX5_use_1 : decode cX5_use 1 = .ok (.getfield 27, 3) := dc_180 (a := 0) (b := 27) (n := 27) (by decide +kernel)
theorem dX5_use_4 : decode cX5_use 4 = .ok (.iload_n 1, 1) := dc_27 (by decide +kernel)
theorem dX5_use_5 : decode cX5_use 5 = .ok (.iconst 1, 1) := dc_4 (by decide +kernel)
theorem dX5_use_6 : decode cX5_use 6 = .ok (.bastore, 1) := dc_84 (by decide +kernel)
theorem dX5_use_7 : decode cX5_use 7 = .ok (.aload_n 0, 1) := dc_42 (by decide +kernel)
theorem dX5_use_8 : decode cX5_use 8 = .ok (.getfield 31, 3) := dc_180 (a := 0) (b := 31) (n := 31) (by decide +kernel)
theorem dX5_use_11 : decode cX5_use 11 = .ok (.aload_n 0, 1) := dc_42 (by decide +kernel)
theorem dX5_use_12 : decode cX5_use 12 = .ok (.dup, 1) := dc_89 (by decide +kernel)
theorem dX5_use_13 : decode cX5_use 13 = .ok (.getfield 43, 3) := dc_180 (a := 0) (b := 43) (n := 43) (by decide +kernel)
theorem dX5_use_16 : decode cX5_use 16 = .ok (.dup_x1, 1) := dc_90 (by decide +kernel)
theorem dX5_use_17 : decode cX5_use 17 = .ok (.iconst 1, 1) := dc_4 (by decide +kernel)
theorem dX5_use_18 : decode cX5_use 18 = .ok (.iadd, 1) := dc_96 (by decide +kernel)
theorem dX5_use_19 : decode cX5_use 19 = .ok (.putfield 43, 3) := dc_181 (a := 0) (b := 43) (n := 43) (by decide +kernel)
theorem dX5_use_22 : decode cX5_use 22 = .ok (.iload_n 1, 1) := dc_27 (by decide +kernel)
theorem dX5_use_23 : decode cX5_use 23 = .ok (.iastore, 1) := dc_79 (by decide +kernel)
theorem dX5_use_24 : decode cX5_use 24 = .ok (.return_, 1) := dc_177 (by decide +kernel)
theorem GX5_31 {w : eW} {d : Nat} {Y : eY} {pc : Nat} {ls : eL} {st : List Value} {h : eH} {Q : eO → eH → Prop} {a : Nat} {x : Nat} (hf : g_A 4 h a 5 = some x) (hd : decode Y.2.1 pc = .ok (.getfield 31, 3)) (hY : Y.1.cls = RX5) (kk : wp w d Y (pc + 3) ls (.ref x :: st) h Q) : wp w d Y pc ls (.ref a :: st) h Q := x_gA (ci := 4) (k := 5) hf hd rfl (by decide) (by rw [hY]; exact q592) kk
theorem GX5_43 {w : eW} {d : Nat} {Y : eY} {pc : Nat} {ls : eL} {st : List Value} {h : eH} {Q : eO → eH → Prop} {a : Nat} {x : Int32} (hf : g_I 4 h a 6 = some x) (hd : decode Y.2.1 pc = .ok (.getfield 43, 3)) (hY : Y.1.cls = RX5) (kk : wp w d Y (pc + 3) ls (.int x :: st) h Q) : wp w d Y pc ls (.ref a :: st) h Q := x_gI (ci := 4) (k := 6) hf hd rfl (by decide) (by rw [hY]; exact q594) kk
def fX5_use (this : Nat) (p0 : Int32) (h : eH) : Option (Unit × eH) :=
  (g_A 4 h this 4).bind fun a1 =>
  (q_V 103 h a1 p0 (.int ((1 : Int32) &&& 1))).bind fun h3 =>
  (g_A 4 h3 this 5).bind fun a5 =>
  (g_I 4 h3 this 6).bind fun x7 =>
  (p_V 4 h3 this 6 (.int (x7 + (1 : Int32)))).bind fun h9 =>
  (q_V 100 h9 a5 x7 (.int p0)).bind fun h11 =>
  some ((), h11)
theorem pX5_use {w : eW} {d : Nat} (hd : 0 ≤ d) {this : Nat} {p0 : Int32} {h : eH} {q} (hf : fX5_use this p0 h = some q) : wm w d YX5_use [.ref this, .int p0] h (e_is (e_rn c_V q)) := by
  show wp w d YX5_use 0 [some (.ref this), some (.int p0)] [] h _
  unfold fX5_use at hf
  refine w_aload_n dX5_use_0 rfl rfl ?_
  obtain ⟨a1, b2, hf⟩ := Option.bind_eq_some_iff.mp hf
  refine GX5_27 b2 dX5_use_1 rfl ?_
  refine w_iload_n dX5_use_4 rfl rfl ?_
  refine w_iconst dX5_use_5 (v := 1) (by decide) ?_
  obtain ⟨h3, b4, hf⟩ := Option.bind_eq_some_iff.mp hf
  refine x_qZ b4 dX5_use_6 ?_
  refine w_aload_n dX5_use_7 rfl rfl ?_
  obtain ⟨a5, b6, hf⟩ := Option.bind_eq_some_iff.mp hf
  refine GX5_31 b6 dX5_use_8 rfl ?_
  refine w_aload_n dX5_use_11 rfl rfl ?_
  refine w_dup dX5_use_12 rfl ?_
  obtain ⟨x7, b8, hf⟩ := Option.bind_eq_some_iff.mp hf
  refine GX5_43 b8 dX5_use_13 rfl ?_
  refine w_dup_x1 dX5_use_16 rfl rfl ?_
  refine w_iconst dX5_use_17 (v := 1) (by decide) ?_
  refine w_iadd dX5_use_18 ?_
  obtain ⟨h9, b10, hf⟩ := Option.bind_eq_some_iff.mp hf
  refine SX5_43 b10 dX5_use_19 rfl ?_
  refine w_iload_n dX5_use_22 rfl rfl ?_
  obtain ⟨h11, b12, hf⟩ := Option.bind_eq_some_iff.mp hf
  refine x_qI b12 dX5_use_23 ?_
  cases hf
  exact w_vret dX5_use_24 rfl rfl
abbrev cX31_select : ByteArray := prog_35_method_7_code
def yX31_select : MethodName := ⟨RX31, "select", "(I)V"⟩
def YX31_select : eY := (yX31_select, cX31_select, 2, none, [])
theorem mX31_select : e_mv YX31_select RX31 1 := ⟨q3455, qs142, q3456, by decide, by decide +kernel, (e_sig (by decide +kernel))⟩
theorem dX31_select_0 : decode cX31_select 0 = .ok (.aload_n 0, 1) := dc_42 (by decide +kernel)
theorem dX31_select_1 : decode cX31_select 1 = .ok (.getfield 56, 3) := dc_180 (a := 0) (b := 56) (n := 56) (by decide +kernel)
theorem dX31_select_4 : decode cX31_select 4 = .ok (.getfield 111, 3) := dc_180 (a := 0) (b := 111) (n := 111) (by decide +kernel)
theorem dX31_select_7 : decode cX31_select 7 = .ok (.iload_n 1, 1) := dc_27 (by decide +kernel)
theorem dX31_select_8 : decode cX31_select 8 = .ok (.baload, 1) := dc_51 (by decide +kernel)
theorem dX31_select_9 : decode cX31_select 9 = .ok (.ifCond .ne 23, 3) := dc_154 (a := 0) (b := 23) (v := 23) (by decide +kernel)
theorem dX31_select_12 : decode cX31_select 12 = .ok (.aload_n 0, 1) := dc_42 (by decide +kernel)
theorem dX31_select_13 : decode cX31_select 13 = .ok (.getfield 56, 3) := dc_180 (a := 0) (b := 56) (n := 56) (by decide +kernel)
theorem dX31_select_16 : decode cX31_select 16 = .ok (.iload_n 1, 1) := dc_27 (by decide +kernel)
theorem dX31_select_17 : decode cX31_select 17 = .ok (.aload_n 0, 1) := dc_42 (by decide +kernel)
theorem dX31_select_18 : decode cX31_select 18 = .ok (.getfield 15, 3) := dc_180 (a := 0) (b := 15) (n := 15) (by decide +kernel)
theorem dX31_select_21 : decode cX31_select 21 = .ok (.invokevirtual 115, 3) := dc_182 (a := 0) (b := 115) (n := 115) (by decide +kernel)
theorem dX31_select_24 : decode cX31_select 24 = .ok (.aload_n 0, 1) := dc_42 (by decide +kernel)
theorem dX31_select_25 : decode cX31_select 25 = .ok (.getfield 56, 3) := dc_180 (a := 0) (b := 56) (n := 56) (by decide +kernel)
theorem dX31_select_28 : decode cX31_select 28 = .ok (.iload_n 1, 1) := dc_27 (by decide +kernel)
theorem dX31_select_29 : decode cX31_select 29 = .ok (.invokevirtual 119, 3) := dc_182 (a := 0) (b := 119) (n := 119) (by decide +kernel)
theorem dX31_select_32 : decode cX31_select 32 = .ok (.iload_n 1, 1) := dc_27 (by decide +kernel)
theorem dX31_select_33 : decode cX31_select 33 = .ok (.bipush 64, 2) := dc_16 (a := 64) (v := 64) (by decide +kernel)
theorem dX31_select_35 : decode cX31_select 35 = .ok (.if_icmp .ge 18, 3) := dc_162 (a := 0) (b := 18) (v := 18) (by decide +kernel)
theorem dX31_select_38 : decode cX31_select 38 = .ok (.aload_n 0, 1) := dc_42 (by decide +kernel)
theorem dX31_select_39 : decode cX31_select 39 = .ok (.getfield 15, 3) := dc_180 (a := 0) (b := 15) (n := 15) (by decide +kernel)
theorem dX31_select_42 : decode cX31_select 42 = .ok (.sipush 171, 3) := dc_17 (a := 0) (b := 171) (v := 171) (by decide +kernel)
theorem dX31_select_45 : decode cX31_select 45 = .ok (.iload_n 1, 1) := dc_27 (by decide +kernel)
theorem dX31_select_46 : decode cX31_select 46 = .ok (.iadd, 1) := dc_96 (by decide +kernel)
theorem dX31_select_47 : decode cX31_select 47 = .ok (.invokevirtual 105, 3) := dc_182 (a := 0) (b := 105) (n := 105) (by decide +kernel)
theorem dX31_select_50 : decode cX31_select 50 = .ok (.goto 21, 3) := dc_167 (a := 0) (b := 21) (v := 21) (by decide +kernel)
theorem dX31_select_53 : decode cX31_select 53 = .ok (.aload_n 0, 1) := dc_42 (by decide +kernel)
theorem dX31_select_54 : decode cX31_select 54 = .ok (.getfield 15, 3) := dc_180 (a := 0) (b := 15) (n := 15) (by decide +kernel)
theorem dX31_select_57 : decode cX31_select 57 = .ok (.sipush 235, 3) := dc_17 (a := 0) (b := 235) (v := 235) (by decide +kernel)
theorem dX31_select_60 : decode cX31_select 60 = .ok (.invokevirtual 105, 3) := dc_182 (a := 0) (b := 105) (n := 105) (by decide +kernel)
theorem dX31_select_63 : decode cX31_select 63 = .ok (.aload_n 0, 1) := dc_42 (by decide +kernel)
theorem dX31_select_64 : decode cX31_select 64 = .ok (.getfield 15, 3) := dc_180 (a := 0) (b := 15) (n := 15) (by decide +kernel)
theorem dX31_select_67 : decode cX31_select 67 = .ok (.iload_n 1, 1) := dc_27 (by decide +kernel)
theorem dX31_select_68 : decode cX31_select 68 = .ok (.invokevirtual 105, 3) := dc_182 (a := 0) (b := 105) (n := 105) (by decide +kernel)
theorem dX31_select_71 : decode cX31_select 71 = .ok (.return_, 1) := dc_177 (by decide +kernel)
theorem GX31_111 {w : eW} {d : Nat} {Y : eY} {pc : Nat} {ls : eL} {st : List Value} {h : eH} {Q : eO → eH → Prop} {a : Nat} {x : Nat} (hf : g_A 4 h a 4 = some x) (hd : decode Y.2.1 pc = .ok (.getfield 111, 3)) (hY : Y.1.cls = RX31) (kk : wp w d Y (pc + 3) ls (.ref x :: st) h Q) : wp w d Y pc ls (.ref a :: st) h Q := x_gAN (ci := 4) (k := 4) hf hd rfl (by decide) (by rw [hY]; exact q591) kk
def fX31_select_b71 (N : Nat)  (h : eH) : Option (Unit × eH) :=
  some ((), h)
theorem pX31_select_b71 {w : eW} {d : Nat} (hd : 3 ≤ d + 1) {N : Nat}  {h : eH} {q} (hf : fX31_select_b71 N h = some q) : wp w (d + 1) YX31_select 71 [none, none] [] h (e_is (e_rn c_V q)) := by
  unfold fX31_select_b71 at hf
  cases hf
  exact w_vret dX31_select_71 rfl rfl
def fX31_select_b32 (N : Nat) (l0 : Nat) (l1 : Int32) (h : eH) : Option (Unit × eH) :=
  if (64 : Int32) ≤ l1 then
    (g_A 30 h l0 1).bind fun a2 =>
    (k_ok 31 h a2).bind fun _ =>
    (fX32_add a2 (235 : Int32) h).bind fun q5 =>
    (g_A 30 q5.2 l0 1).bind fun a6 =>
    (k_ok 31 q5.2 a6).bind fun _ =>
    (fX32_add a6 l1 q5.2).bind fun q9 =>
    fX31_select_b71 N q9.2
  else
    (g_A 30 h l0 1).bind fun a10 =>
    (k_ok 31 h a10).bind fun _ =>
    (fX32_add a10 ((171 : Int32) + l1) h).bind fun q13 =>
    fX31_select_b71 N q13.2
theorem pX31_select_b32 {w : eW} {d : Nat} (hd : 3 ≤ d + 1) {N : Nat} {l0 : Nat} {l1 : Int32} {h : eH} {q} (hf : fX31_select_b32 N l0 l1 h = some q) : wp w (d + 1) YX31_select 32 [some (.ref l0), some (.int l1)] [] h (e_is (e_rn c_V q)) := by
  unfold fX31_select_b32 at hf
  refine w_iload_n dX31_select_32 rfl rfl ?_
  refine w_bipush dX31_select_33 (v := 64) (by decide) ?_
  refine w_icmp_ge 53 dX31_select_35 (by decide) (fun c1 => ?_) (fun c1 => ?_)
  · replace hf := (if_pos (show (64 : Int32) ≤ l1 from c1)).symm.trans hf
    refine w_aload_n dX31_select_53 rfl rfl ?_
    obtain ⟨a2, b3, hf⟩ := Option.bind_eq_some_iff.mp hf
    refine GX31_15 b3 dX31_select_54 rfl ?_
    refine w_sipush dX31_select_57 (v := 235) (by decide) ?_
    obtain ⟨_, b4, hf⟩ := Option.bind_eq_some_iff.mp hf
    refine x_cnV hf (e_stV (Yc := YX32_add) (ci := 31) (av := [.int (235 : Int32)]) (st := []) dX31_select_60 q3417 mX32_add rfl (k_ok_some b4).1 (k_ok_some b4).2) mX32_add.2.2.1 mX32_add.2.2.2.2.1 (Nat.le_of_ble_eq_true rfl) (Nat.le_of_ble_eq_true rfl) (fun q hq => pX32_add (by omega) hq) (fun q5 hf => ?_)
    refine w_aload_n dX31_select_63 rfl rfl ?_
    obtain ⟨a6, b7, hf⟩ := Option.bind_eq_some_iff.mp hf
    refine GX31_15 b7 dX31_select_64 rfl ?_
    refine w_iload_n dX31_select_67 rfl rfl ?_
    obtain ⟨_, b8, hf⟩ := Option.bind_eq_some_iff.mp hf
    refine x_cnV hf (e_stV (Yc := YX32_add) (ci := 31) (av := [.int l1]) (st := []) dX31_select_68 q3417 mX32_add rfl (k_ok_some b8).1 (k_ok_some b8).2) mX32_add.2.2.1 mX32_add.2.2.2.2.1 (Nat.le_of_ble_eq_true rfl) (Nat.le_of_ble_eq_true rfl) (fun q hq => pX32_add (by omega) hq) (fun q9 hf => ?_)
    exact (pX31_select_b71 hd hf).to trivial
  · replace hf := (if_neg (show ¬ ((64 : Int32) ≤ l1) from c1)).symm.trans hf
    refine w_aload_n dX31_select_38 rfl rfl ?_
    obtain ⟨a10, b11, hf⟩ := Option.bind_eq_some_iff.mp hf
    refine GX31_15 b11 dX31_select_39 rfl ?_
    refine w_sipush dX31_select_42 (v := 171) (by decide) ?_
    refine w_iload_n dX31_select_45 rfl rfl ?_
    refine w_iadd dX31_select_46 ?_
    obtain ⟨_, b12, hf⟩ := Option.bind_eq_some_iff.mp hf
    refine x_cnV hf (e_stV (Yc := YX32_add) (ci := 31) (av := [.int ((171 : Int32) + l1)]) (st := []) dX31_select_47 q3417 mX32_add rfl (k_ok_some b12).1 (k_ok_some b12).2) mX32_add.2.2.1 mX32_add.2.2.2.2.1 (Nat.le_of_ble_eq_true rfl) (Nat.le_of_ble_eq_true rfl) (fun q hq => pX32_add (by omega) hq) (fun q13 hf => ?_)
    refine w_goto 71 dX31_select_50 (by decide) ?_
    exact (pX31_select_b71 hd hf).to trivial
def fX31_select (N : Nat) (this : Nat) (p0 : Int32) (h : eH) : Option (Unit × eH) :=
  (g_A 30 h this 0).bind fun a1 =>
  (g_A 4 h a1 4).bind fun a3 =>
  (r_I 103 h a3 p0).bind fun x5 =>
  if ¬ x5 = 0 then
    fX31_select_b32 N this p0 h
  else
    (g_A 30 h this 0).bind fun a8 =>
    (g_A 30 h this 1).bind fun a10 =>
    (k_ok 4 h a8).bind fun _ =>
    (fX5_define N a8 p0 a10 h).bind fun q13 =>
    (g_A 30 q13.2 this 0).bind fun a14 =>
    (k_ok 4 q13.2 a14).bind fun _ =>
    (fX5_use a14 p0 q13.2).bind fun q17 =>
    fX31_select_b32 N this p0 q17.2
theorem pX31_select {w : eW} {d : Nat} (hd : 3 ≤ d) {N : Nat} {this : Nat} {p0 : Int32} {h : eH} {q} (hf : fX31_select N this p0 h = some q) : wm w d YX31_select [.ref this, .int p0] h (e_is (e_rn c_V q)) := by
  obtain ⟨d, rfl⟩ : ∃ e, d = e + 1 := ⟨d - 1, by omega⟩
  show wp w (d + 1) YX31_select 0 [some (.ref this), some (.int p0)] [] h _
  unfold fX31_select at hf
  refine w_aload_n dX31_select_0 rfl rfl ?_
  obtain ⟨a1, b2, hf⟩ := Option.bind_eq_some_iff.mp hf
  refine GX31_56 b2 dX31_select_1 rfl ?_
  obtain ⟨a3, b4, hf⟩ := Option.bind_eq_some_iff.mp hf
  refine GX31_111 b4 dX31_select_4 rfl ?_
  refine w_iload_n dX31_select_7 rfl rfl ?_
  obtain ⟨x5, b6, hf⟩ := Option.bind_eq_some_iff.mp hf
  refine x_rZ b6 dX31_select_8 ?_
  refine w_if_ne 32 dX31_select_9 (by decide) (fun c7 => ?_) (fun c7 => ?_)
  · replace hf := (if_pos (show ¬ x5 = 0 from c7)).symm.trans hf
    exact (pX31_select_b32 hd hf).to ⟨rfl, rfl, trivial⟩
  · replace hf := (if_neg (show ¬ (¬ x5 = 0) from (fun z => z c7))).symm.trans hf
    refine w_aload_n dX31_select_12 rfl rfl ?_
    obtain ⟨a8, b9, hf⟩ := Option.bind_eq_some_iff.mp hf
    refine GX31_56 b9 dX31_select_13 rfl ?_
    refine w_iload_n dX31_select_16 rfl rfl ?_
    refine w_aload_n dX31_select_17 rfl rfl ?_
    obtain ⟨a10, b11, hf⟩ := Option.bind_eq_some_iff.mp hf
    refine GX31_15 b11 dX31_select_18 rfl ?_
    obtain ⟨_, b12, hf⟩ := Option.bind_eq_some_iff.mp hf
    refine x_cnV hf (e_stV (Yc := YX5_define) (ci := 4) (av := [.int p0, .ref a10]) (st := []) dX31_select_21 q3457 mX5_define rfl (k_ok_some b12).1 (k_ok_some b12).2) mX5_define.2.2.1 mX5_define.2.2.2.2.1 (Nat.le_of_ble_eq_true rfl) (Nat.le_of_ble_eq_true rfl) (fun q hq => pX5_define (by omega) hq) (fun q13 hf => ?_)
    refine w_aload_n dX31_select_24 rfl rfl ?_
    obtain ⟨a14, b15, hf⟩ := Option.bind_eq_some_iff.mp hf
    refine GX31_56 b15 dX31_select_25 rfl ?_
    refine w_iload_n dX31_select_28 rfl rfl ?_
    obtain ⟨_, b16, hf⟩ := Option.bind_eq_some_iff.mp hf
    refine x_cnV hf (e_stV (Yc := YX5_use) (ci := 4) (av := [.int p0]) (st := []) dX31_select_29 q3464 mX5_use rfl (k_ok_some b16).1 (k_ok_some b16).2) mX5_use.2.2.1 mX5_use.2.2.2.2.1 (Nat.le_of_ble_eq_true rfl) (Nat.le_of_ble_eq_true rfl) (fun q hq => pX5_use (by omega) hq) (fun q17 hf => ?_)
    exact (pX31_select_b32 hd hf).to ⟨rfl, rfl, trivial⟩
abbrev cX31_writeMarks : ByteArray := prog_35_method_8_code
def yX31_writeMarks : MethodName := ⟨RX31, "writeMarks", "()V"⟩
def YX31_writeMarks : eY := (yX31_writeMarks, cX31_writeMarks, 5, none, [])
theorem mX31_writeMarks : e_mv YX31_writeMarks RX31 0 := ⟨q3430, qs139, q3431, by decide, by decide +kernel, (e_sig (by decide +kernel))⟩
theorem dX31_writeMarks_0 : decode cX31_writeMarks 0 = .ok (.iconst 0, 1) := dc_3 (by decide +kernel)
theorem dX31_writeMarks_1 : decode cX31_writeMarks 1 = .ok (.istore_n 1, 1) := dc_60 (by decide +kernel)
theorem dX31_writeMarks_2 : decode cX31_writeMarks 2 = .ok (.iconst 0, 1) := dc_3 (by decide +kernel)
theorem dX31_writeMarks_3 : decode cX31_writeMarks 3 = .ok (.istore_n 2, 1) := dc_61 (by decide +kernel)
theorem dX31_writeMarks_4 : decode cX31_writeMarks 4 = .ok (.iconst (-1), 1) := dc_2 (by decide +kernel)
theorem dX31_writeMarks_5 : decode cX31_writeMarks 5 = .ok (.istore_n 3, 1) := dc_62 (by decide +kernel)
theorem dX31_writeMarks_6 : decode cX31_writeMarks 6 = .ok (.iconst 0, 1) := dc_3 (by decide +kernel)
theorem dX31_writeMarks_7 : decode cX31_writeMarks 7 = .ok (.istore 4, 2) := dc_54 (a := 4) (by decide +kernel)
theorem dX31_writeMarks_9 : decode cX31_writeMarks 9 = .ok (.iload 4, 2) := dc_21 (a := 4) (by decide +kernel)
theorem dX31_writeMarks_11 : decode cX31_writeMarks 11 = .ok (.aload_n 0, 1) := dc_42 (by decide +kernel)
theorem dX31_writeMarks_12 : decode cX31_writeMarks 12 = .ok (.getfield 69, 3) := dc_180 (a := 0) (b := 69) (n := 69) (by decide +kernel)
theorem dX31_writeMarks_15 : decode cX31_writeMarks 15 = .ok (.if_icmp .ge 185, 3) := dc_162 (a := 0) (b := 185) (v := 185) (by decide +kernel)
theorem dX31_writeMarks_18 : decode cX31_writeMarks 18 = .ok (.aload_n 0, 1) := dc_42 (by decide +kernel)
theorem dX31_writeMarks_19 : decode cX31_writeMarks 19 = .ok (.getfield 49, 3) := dc_180 (a := 0) (b := 49) (n := 49) (by decide +kernel)
theorem dX31_writeMarks_22 : decode cX31_writeMarks 22 = .ok (.aload_n 0, 1) := dc_42 (by decide +kernel)
theorem dX31_writeMarks_23 : decode cX31_writeMarks 23 = .ok (.getfield 34, 3) := dc_180 (a := 0) (b := 34) (n := 34) (by decide +kernel)
theorem dX31_writeMarks_26 : decode cX31_writeMarks 26 = .ok (.iload 4, 2) := dc_21 (a := 4) (by decide +kernel)
theorem dX31_writeMarks_28 : decode cX31_writeMarks 28 = .ok (.iaload, 1) := dc_46 (by decide +kernel)
theorem dX31_writeMarks_29 : decode cX31_writeMarks 29 = .ok (.iload_n 2, 1) := dc_28 (by decide +kernel)
theorem dX31_writeMarks_30 : decode cX31_writeMarks 30 = .ok (.isub, 1) := dc_100 (by decide +kernel)
theorem dX31_writeMarks_31 : decode cX31_writeMarks 31 = .ok (.aload_n 0, 1) := dc_42 (by decide +kernel)
theorem dX31_writeMarks_32 : decode cX31_writeMarks 32 = .ok (.getfield 15, 3) := dc_180 (a := 0) (b := 15) (n := 15) (by decide +kernel)
theorem dX31_writeMarks_35 : decode cX31_writeMarks 35 = .ok (.invokevirtual 122, 3) := dc_182 (a := 0) (b := 122) (n := 122) (by decide +kernel)
theorem dX31_writeMarks_38 : decode cX31_writeMarks 38 = .ok (.aload_n 0, 1) := dc_42 (by decide +kernel)
theorem dX31_writeMarks_39 : decode cX31_writeMarks 39 = .ok (.getfield 45, 3) := dc_180 (a := 0) (b := 45) (n := 45) (by decide +kernel)
theorem dX31_writeMarks_42 : decode cX31_writeMarks 42 = .ok (.aload_n 0, 1) := dc_42 (by decide +kernel)
theorem dX31_writeMarks_43 : decode cX31_writeMarks 43 = .ok (.getfield 31, 3) := dc_180 (a := 0) (b := 31) (n := 31) (by decide +kernel)
theorem dX31_writeMarks_46 : decode cX31_writeMarks 46 = .ok (.iload 4, 2) := dc_21 (a := 4) (by decide +kernel)
theorem dX31_writeMarks_48 : decode cX31_writeMarks 48 = .ok (.iaload, 1) := dc_46 (by decide +kernel)
theorem dX31_writeMarks_49 : decode cX31_writeMarks 49 = .ok (.iload_n 1, 1) := dc_27 (by decide +kernel)
theorem dX31_writeMarks_50 : decode cX31_writeMarks 50 = .ok (.isub, 1) := dc_100 (by decide +kernel)
theorem dX31_writeMarks_51 : decode cX31_writeMarks 51 = .ok (.aload_n 0, 1) := dc_42 (by decide +kernel)
theorem dX31_writeMarks_52 : decode cX31_writeMarks 52 = .ok (.getfield 15, 3) := dc_180 (a := 0) (b := 15) (n := 15) (by decide +kernel)
theorem dX31_writeMarks_55 : decode cX31_writeMarks 55 = .ok (.invokevirtual 122, 3) := dc_182 (a := 0) (b := 122) (n := 122) (by decide +kernel)
theorem dX31_writeMarks_58 : decode cX31_writeMarks 58 = .ok (.aload_n 0, 1) := dc_42 (by decide +kernel)
theorem dX31_writeMarks_59 : decode cX31_writeMarks 59 = .ok (.getfield 34, 3) := dc_180 (a := 0) (b := 34) (n := 34) (by decide +kernel)
theorem dX31_writeMarks_62 : decode cX31_writeMarks 62 = .ok (.iload 4, 2) := dc_21 (a := 4) (by decide +kernel)
theorem dX31_writeMarks_64 : decode cX31_writeMarks 64 = .ok (.iaload, 1) := dc_46 (by decide +kernel)
theorem dX31_writeMarks_65 : decode cX31_writeMarks 65 = .ok (.istore_n 2, 1) := dc_61 (by decide +kernel)
theorem dX31_writeMarks_66 : decode cX31_writeMarks 66 = .ok (.aload_n 0, 1) := dc_42 (by decide +kernel)
theorem dX31_writeMarks_67 : decode cX31_writeMarks 67 = .ok (.iload 4, 2) := dc_21 (a := 4) (by decide +kernel)
theorem dX31_writeMarks_69 : decode cX31_writeMarks 69 = .ok (.invokevirtual 98, 3) := dc_182 (a := 0) (b := 98) (n := 98) (by decide +kernel)
theorem dX31_writeMarks_72 : decode cX31_writeMarks 72 = .ok (.istore_n 1, 1) := dc_60 (by decide +kernel)
theorem dX31_writeMarks_73 : decode cX31_writeMarks 73 = .ok (.aload_n 0, 1) := dc_42 (by decide +kernel)
theorem dX31_writeMarks_74 : decode cX31_writeMarks 74 = .ok (.getfield 25, 3) := dc_180 (a := 0) (b := 25) (n := 25) (by decide +kernel)
theorem dX31_writeMarks_77 : decode cX31_writeMarks 77 = .ok (.iload 4, 2) := dc_21 (a := 4) (by decide +kernel)
theorem dX31_writeMarks_79 : decode cX31_writeMarks 79 = .ok (.iaload, 1) := dc_46 (by decide +kernel)
theorem dX31_writeMarks_80 : decode cX31_writeMarks 80 = .ok (.iconst (-1), 1) := dc_2 (by decide +kernel)
theorem dX31_writeMarks_81 : decode cX31_writeMarks 81 = .ok (.if_icmp .ne 46, 3) := dc_160 (a := 0) (b := 46) (v := 46) (by decide +kernel)
theorem dX31_writeMarks_84 : decode cX31_writeMarks 84 = .ok (.aload_n 0, 1) := dc_42 (by decide +kernel)
theorem dX31_writeMarks_85 : decode cX31_writeMarks 85 = .ok (.getfield 15, 3) := dc_180 (a := 0) (b := 15) (n := 15) (by decide +kernel)
theorem dX31_writeMarks_88 : decode cX31_writeMarks 88 = .ok (.sipush 137, 3) := dc_17 (a := 0) (b := 137) (v := 137) (by decide +kernel)
theorem dX31_writeMarks_91 : decode cX31_writeMarks 91 = .ok (.invokevirtual 105, 3) := dc_182 (a := 0) (b := 105) (n := 105) (by decide +kernel)
theorem dX31_writeMarks_94 : decode cX31_writeMarks 94 = .ok (.aload_n 0, 1) := dc_42 (by decide +kernel)
theorem dX31_writeMarks_95 : decode cX31_writeMarks 95 = .ok (.getfield 15, 3) := dc_180 (a := 0) (b := 15) (n := 15) (by decide +kernel)
theorem dX31_writeMarks_98 : decode cX31_writeMarks 98 = .ok (.aload_n 0, 1) := dc_42 (by decide +kernel)
theorem dX31_writeMarks_99 : decode cX31_writeMarks 99 = .ok (.getfield 37, 3) := dc_180 (a := 0) (b := 37) (n := 37) (by decide +kernel)
theorem dX31_writeMarks_102 : decode cX31_writeMarks 102 = .ok (.iload 4, 2) := dc_21 (a := 4) (by decide +kernel)
theorem dX31_writeMarks_104 : decode cX31_writeMarks 104 = .ok (.iaload, 1) := dc_46 (by decide +kernel)
theorem dX31_writeMarks_105 : decode cX31_writeMarks 105 = .ok (.iconst 4, 1) := dc_7 (by decide +kernel)
theorem dX31_writeMarks_106 : decode cX31_writeMarks 106 = .ok (.invokevirtual 107, 3) := dc_182 (a := 0) (b := 107) (n := 107) (by decide +kernel)
theorem dX31_writeMarks_109 : decode cX31_writeMarks 109 = .ok (.aload_n 0, 1) := dc_42 (by decide +kernel)
theorem dX31_writeMarks_110 : decode cX31_writeMarks 110 = .ok (.getfield 15, 3) := dc_180 (a := 0) (b := 15) (n := 15) (by decide +kernel)
theorem dX31_writeMarks_113 : decode cX31_writeMarks 113 = .ok (.aload_n 0, 1) := dc_42 (by decide +kernel)
theorem dX31_writeMarks_114 : decode cX31_writeMarks 114 = .ok (.getfield 28, 3) := dc_180 (a := 0) (b := 28) (n := 28) (by decide +kernel)
theorem dX31_writeMarks_117 : decode cX31_writeMarks 117 = .ok (.iload 4, 2) := dc_21 (a := 4) (by decide +kernel)
theorem dX31_writeMarks_119 : decode cX31_writeMarks 119 = .ok (.iaload, 1) := dc_46 (by decide +kernel)
theorem dX31_writeMarks_120 : decode cX31_writeMarks 120 = .ok (.iconst 4, 1) := dc_7 (by decide +kernel)
theorem dX31_writeMarks_121 : decode cX31_writeMarks 121 = .ok (.invokevirtual 107, 3) := dc_182 (a := 0) (b := 107) (n := 107) (by decide +kernel)
theorem dX31_writeMarks_124 : decode cX31_writeMarks 124 = .ok (.goto 70, 3) := dc_167 (a := 0) (b := 70) (v := 70) (by decide +kernel)
theorem dX31_writeMarks_127 : decode cX31_writeMarks 127 = .ok (.aload_n 0, 1) := dc_42 (by decide +kernel)
theorem dX31_writeMarks_128 : decode cX31_writeMarks 128 = .ok (.getfield 25, 3) := dc_180 (a := 0) (b := 25) (n := 25) (by decide +kernel)
theorem dX31_writeMarks_131 : decode cX31_writeMarks 131 = .ok (.iload 4, 2) := dc_21 (a := 4) (by decide +kernel)
theorem dX31_writeMarks_133 : decode cX31_writeMarks 133 = .ok (.iaload, 1) := dc_46 (by decide +kernel)
theorem dX31_writeMarks_134 : decode cX31_writeMarks 134 = .ok (.iload_n 3, 1) := dc_29 (by decide +kernel)
theorem dX31_writeMarks_135 : decode cX31_writeMarks 135 = .ok (.if_icmp .eq 14, 3) := dc_159 (a := 0) (b := 14) (v := 14) (by decide +kernel)
theorem dX31_writeMarks_138 : decode cX31_writeMarks 138 = .ok (.aload_n 0, 1) := dc_42 (by decide +kernel)
theorem dX31_writeMarks_139 : decode cX31_writeMarks 139 = .ok (.aload_n 0, 1) := dc_42 (by decide +kernel)
theorem dX31_writeMarks_140 : decode cX31_writeMarks 140 = .ok (.getfield 25, 3) := dc_180 (a := 0) (b := 25) (n := 25) (by decide +kernel)
theorem dX31_writeMarks_143 : decode cX31_writeMarks 143 = .ok (.iload 4, 2) := dc_21 (a := 4) (by decide +kernel)
theorem dX31_writeMarks_145 : decode cX31_writeMarks 145 = .ok (.iaload, 1) := dc_46 (by decide +kernel)
theorem dX31_writeMarks_146 : decode cX31_writeMarks 146 = .ok (.invokevirtual 125, 3) := dc_182 (a := 0) (b := 125) (n := 125) (by decide +kernel)
theorem dX31_writeMarks_149 : decode cX31_writeMarks 149 = .ok (.aload_n 0, 1) := dc_42 (by decide +kernel)
theorem dX31_writeMarks_150 : decode cX31_writeMarks 150 = .ok (.getfield 25, 3) := dc_180 (a := 0) (b := 25) (n := 25) (by decide +kernel)
theorem dX31_writeMarks_153 : decode cX31_writeMarks 153 = .ok (.iload 4, 2) := dc_21 (a := 4) (by decide +kernel)
theorem dX31_writeMarks_155 : decode cX31_writeMarks 155 = .ok (.iaload, 1) := dc_46 (by decide +kernel)
theorem dX31_writeMarks_156 : decode cX31_writeMarks 156 = .ok (.istore_n 3, 1) := dc_62 (by decide +kernel)
theorem dX31_writeMarks_157 : decode cX31_writeMarks 157 = .ok (.aload_n 0, 1) := dc_42 (by decide +kernel)
theorem dX31_writeMarks_158 : decode cX31_writeMarks 158 = .ok (.getfield 28, 3) := dc_180 (a := 0) (b := 28) (n := 28) (by decide +kernel)
theorem dX31_writeMarks_161 : decode cX31_writeMarks 161 = .ok (.iload 4, 2) := dc_21 (a := 4) (by decide +kernel)
theorem dX31_writeMarks_163 : decode cX31_writeMarks 163 = .ok (.iaload, 1) := dc_46 (by decide +kernel)
theorem dX31_writeMarks_164 : decode cX31_writeMarks 164 = .ok (.sipush 128, 3) := dc_17 (a := 0) (b := 128) (v := 128) (by decide +kernel)
theorem dX31_writeMarks_167 : decode cX31_writeMarks 167 = .ok (.if_icmp .lt 13, 3) := dc_161 (a := 0) (b := 13) (v := 13) (by decide +kernel)
theorem dX31_writeMarks_170 : decode cX31_writeMarks 170 = .ok (.aload_n 0, 1) := dc_42 (by decide +kernel)
theorem dX31_writeMarks_171 : decode cX31_writeMarks 171 = .ok (.getfield 15, 3) := dc_180 (a := 0) (b := 15) (n := 15) (by decide +kernel)
theorem dX31_writeMarks_174 : decode cX31_writeMarks 174 = .ok (.sipush 128, 3) := dc_17 (a := 0) (b := 128) (v := 128) (by decide +kernel)
theorem dX31_writeMarks_177 : decode cX31_writeMarks 177 = .ok (.invokevirtual 105, 3) := dc_182 (a := 0) (b := 105) (n := 105) (by decide +kernel)
theorem dX31_writeMarks_180 : decode cX31_writeMarks 180 = .ok (.aload_n 0, 1) := dc_42 (by decide +kernel)
theorem dX31_writeMarks_181 : decode cX31_writeMarks 181 = .ok (.getfield 15, 3) := dc_180 (a := 0) (b := 15) (n := 15) (by decide +kernel)
theorem dX31_writeMarks_184 : decode cX31_writeMarks 184 = .ok (.aload_n 0, 1) := dc_42 (by decide +kernel)
theorem dX31_writeMarks_185 : decode cX31_writeMarks 185 = .ok (.getfield 28, 3) := dc_180 (a := 0) (b := 28) (n := 28) (by decide +kernel)
theorem dX31_writeMarks_188 : decode cX31_writeMarks 188 = .ok (.iload 4, 2) := dc_21 (a := 4) (by decide +kernel)
theorem dX31_writeMarks_190 : decode cX31_writeMarks 190 = .ok (.iaload, 1) := dc_46 (by decide +kernel)
theorem dX31_writeMarks_191 : decode cX31_writeMarks 191 = .ok (.invokevirtual 105, 3) := dc_182 (a := 0) (b := 105) (n := 105) (by decide +kernel)
theorem dX31_writeMarks_194 : decode cX31_writeMarks 194 = .ok (.iinc 4 1, 3) := dc_132 (a := 4) (b := 1) (v := 1) (by decide +kernel)
theorem dX31_writeMarks_197 : decode cX31_writeMarks 197 = .ok (.goto (-188), 3) := dc_167 (a := 255) (b := 68) (v := -188) (by decide +kernel)
theorem dX31_writeMarks_200 : decode cX31_writeMarks 200 = .ok (.return_, 1) := dc_177 (by decide +kernel)
def fX31_writeMarks_b194 (N : Nat) (k9 : Nat → Int32 → Int32 → Int32 → Int32 → eH → Option (Unit × eH)) (l0 : Nat) (l1 : Int32) (l2 : Int32) (l3 : Int32) (l4 : Int32) (h : eH) : Option (Unit × eH) :=
  k9 l0 l1 l2 l3 (l4 + (1 : Int32)) h
theorem pX31_writeMarks_b194 {w : eW} {d : Nat} (hd : 5 ≤ d + 1) {N : Nat} {k9 : Nat → Int32 → Int32 → Int32 → Int32 → eH → Option (Unit × eH)} (hk9 : ∀ l0 l1 l2 l3 l4 h q, k9 l0 l1 l2 l3 l4 h = some q → wp w (d + 1) YX31_writeMarks 9 [some (.ref l0), some (.int l1), some (.int l2), some (.int l3), some (.int l4)] [] h (e_is (e_rn c_V q))) {l0 : Nat} {l1 : Int32} {l2 : Int32} {l3 : Int32} {l4 : Int32} {h : eH} {q} (hf : fX31_writeMarks_b194 N k9 l0 l1 l2 l3 l4 h = some q) : wp w (d + 1) YX31_writeMarks 194 [some (.ref l0), some (.int l1), some (.int l2), some (.int l3), some (.int l4)] [] h (e_is (e_rn c_V q)) := by
  unfold fX31_writeMarks_b194 at hf
  refine w_iinc dX31_writeMarks_194 (v := (l4 + (1 : Int32))) rfl rfl (by decide) (ls' := [some (.ref l0), some (.int l1), some (.int l2), some (.int l3), some (.int (l4 + (1 : Int32)))]) rfl ?_
  refine w_goto 9 dX31_writeMarks_197 (by decide) ?_
  exact (hk9 _ _ _ _ _ _ _ hf).to ⟨rfl, rfl, rfl, rfl, rfl, trivial⟩
def fX31_writeMarks_b180 (N : Nat) (k9 : Nat → Int32 → Int32 → Int32 → Int32 → eH → Option (Unit × eH)) (l0 : Nat) (l1 : Int32) (l2 : Int32) (l3 : Int32) (l4 : Int32) (h : eH) : Option (Unit × eH) :=
  (g_A 30 h l0 1).bind fun a1 =>
  (g_A 30 h l0 4).bind fun a3 =>
  (r_I 100 h a3 l4).bind fun x5 =>
  (k_ok 31 h a1).bind fun _ =>
  (fX32_add a1 x5 h).bind fun q8 =>
  fX31_writeMarks_b194 N k9 l0 l1 l2 l3 l4 q8.2
theorem pX31_writeMarks_b180 {w : eW} {d : Nat} (hd : 5 ≤ d + 1) {N : Nat} {k9 : Nat → Int32 → Int32 → Int32 → Int32 → eH → Option (Unit × eH)} (hk9 : ∀ l0 l1 l2 l3 l4 h q, k9 l0 l1 l2 l3 l4 h = some q → wp w (d + 1) YX31_writeMarks 9 [some (.ref l0), some (.int l1), some (.int l2), some (.int l3), some (.int l4)] [] h (e_is (e_rn c_V q))) {l0 : Nat} {l1 : Int32} {l2 : Int32} {l3 : Int32} {l4 : Int32} {h : eH} {q} (hf : fX31_writeMarks_b180 N k9 l0 l1 l2 l3 l4 h = some q) : wp w (d + 1) YX31_writeMarks 180 [some (.ref l0), some (.int l1), some (.int l2), some (.int l3), some (.int l4)] [] h (e_is (e_rn c_V q)) := by
  unfold fX31_writeMarks_b180 at hf
  refine w_aload_n dX31_writeMarks_180 rfl rfl ?_
  obtain ⟨a1, b2, hf⟩ := Option.bind_eq_some_iff.mp hf
  refine GX31_15 b2 dX31_writeMarks_181 rfl ?_
  refine w_aload_n dX31_writeMarks_184 rfl rfl ?_
  obtain ⟨a3, b4, hf⟩ := Option.bind_eq_some_iff.mp hf
  refine GX31_28 b4 dX31_writeMarks_185 rfl ?_
  refine w_iload dX31_writeMarks_188 rfl ?_
  obtain ⟨x5, b6, hf⟩ := Option.bind_eq_some_iff.mp hf
  refine x_rI b6 dX31_writeMarks_190 ?_
  obtain ⟨_, b7, hf⟩ := Option.bind_eq_some_iff.mp hf
  refine x_cnV hf (e_stV (Yc := YX32_add) (ci := 31) (av := [.int x5]) (st := []) dX31_writeMarks_191 q3417 mX32_add rfl (k_ok_some b7).1 (k_ok_some b7).2) mX32_add.2.2.1 mX32_add.2.2.2.2.1 (Nat.le_of_ble_eq_true rfl) (Nat.le_of_ble_eq_true rfl) (fun q hq => pX32_add (by omega) hq) (fun q8 hf => ?_)
  exact (pX31_writeMarks_b194 hd hk9 hf).to ⟨rfl, rfl, rfl, rfl, rfl, trivial⟩
def fX31_writeMarks_b149 (N : Nat) (k9 : Nat → Int32 → Int32 → Int32 → Int32 → eH → Option (Unit × eH)) (l0 : Nat) (l1 : Int32) (l2 : Int32) (l4 : Int32) (h : eH) : Option (Unit × eH) :=
  (g_A 30 h l0 3).bind fun a1 =>
  (r_I 100 h a1 l4).bind fun x3 =>
  (g_A 30 h l0 4).bind fun a5 =>
  (r_I 100 h a5 l4).bind fun x7 =>
  if x7 < (128 : Int32) then
    fX31_writeMarks_b180 N k9 l0 l1 l2 x3 l4 h
  else
    (g_A 30 h l0 1).bind fun a10 =>
    (k_ok 31 h a10).bind fun _ =>
    (fX32_add a10 (128 : Int32) h).bind fun q13 =>
    fX31_writeMarks_b180 N k9 l0 l1 l2 x3 l4 q13.2
theorem pX31_writeMarks_b149 {w : eW} {d : Nat} (hd : 5 ≤ d + 1) {N : Nat} {k9 : Nat → Int32 → Int32 → Int32 → Int32 → eH → Option (Unit × eH)} (hk9 : ∀ l0 l1 l2 l3 l4 h q, k9 l0 l1 l2 l3 l4 h = some q → wp w (d + 1) YX31_writeMarks 9 [some (.ref l0), some (.int l1), some (.int l2), some (.int l3), some (.int l4)] [] h (e_is (e_rn c_V q))) {l0 : Nat} {l1 : Int32} {l2 : Int32} {l4 : Int32} {h : eH} {q} (hf : fX31_writeMarks_b149 N k9 l0 l1 l2 l4 h = some q) : wp w (d + 1) YX31_writeMarks 149 [some (.ref l0), some (.int l1), some (.int l2), none, some (.int l4)] [] h (e_is (e_rn c_V q)) := by
  unfold fX31_writeMarks_b149 at hf
  refine w_aload_n dX31_writeMarks_149 rfl rfl ?_
  obtain ⟨a1, b2, hf⟩ := Option.bind_eq_some_iff.mp hf
  refine GX31_25 b2 dX31_writeMarks_150 rfl ?_
  refine w_iload dX31_writeMarks_153 rfl ?_
  obtain ⟨x3, b4, hf⟩ := Option.bind_eq_some_iff.mp hf
  refine x_rI b4 dX31_writeMarks_155 ?_
  refine w_istore_n dX31_writeMarks_156 rfl (by decide) (ls' := [some (.ref l0), some (.int l1), some (.int l2), some (.int x3), some (.int l4)]) rfl ?_
  refine w_aload_n dX31_writeMarks_157 rfl rfl ?_
  obtain ⟨a5, b6, hf⟩ := Option.bind_eq_some_iff.mp hf
  refine GX31_28 b6 dX31_writeMarks_158 rfl ?_
  refine w_iload dX31_writeMarks_161 rfl ?_
  obtain ⟨x7, b8, hf⟩ := Option.bind_eq_some_iff.mp hf
  refine x_rI b8 dX31_writeMarks_163 ?_
  refine w_sipush dX31_writeMarks_164 (v := 128) (by decide) ?_
  refine w_icmp_lt 180 dX31_writeMarks_167 (by decide) (fun c9 => ?_) (fun c9 => ?_)
  · replace hf := (if_pos (show x7 < (128 : Int32) from c9)).symm.trans hf
    exact (pX31_writeMarks_b180 hd hk9 hf).to ⟨rfl, rfl, rfl, rfl, rfl, trivial⟩
  · replace hf := (if_neg (show ¬ (x7 < (128 : Int32)) from c9)).symm.trans hf
    refine w_aload_n dX31_writeMarks_170 rfl rfl ?_
    obtain ⟨a10, b11, hf⟩ := Option.bind_eq_some_iff.mp hf
    refine GX31_15 b11 dX31_writeMarks_171 rfl ?_
    refine w_sipush dX31_writeMarks_174 (v := 128) (by decide) ?_
    obtain ⟨_, b12, hf⟩ := Option.bind_eq_some_iff.mp hf
    refine x_cnV hf (e_stV (Yc := YX32_add) (ci := 31) (av := [.int (128 : Int32)]) (st := []) dX31_writeMarks_177 q3417 mX32_add rfl (k_ok_some b12).1 (k_ok_some b12).2) mX32_add.2.2.1 mX32_add.2.2.2.2.1 (Nat.le_of_ble_eq_true rfl) (Nat.le_of_ble_eq_true rfl) (fun q hq => pX32_add (by omega) hq) (fun q13 hf => ?_)
    exact (pX31_writeMarks_b180 hd hk9 hf).to ⟨rfl, rfl, rfl, rfl, rfl, trivial⟩
def fX31_writeMarks_b9 (N : Nat) : Nat → Nat → Int32 → Int32 → Int32 → Int32 → eH → Option (Unit × eH)
  | 0, _, _, _, _, _, _ => none
  | n + 1, l0, l1, l2, l3, l4, h =>
    (g_I 30 h l0 8).bind fun x1 =>
    if x1 ≤ l4 then
      some ((), h)
    else
      (g_A 30 h l0 10).bind fun a4 =>
      (g_A 30 h l0 6).bind fun a6 =>
      (r_I 100 h a6 l4).bind fun x8 =>
      (g_A 30 h l0 1).bind fun a10 =>
      (k_ok 32 h a4).bind fun _ =>
      (fX33_write N a4 (x8 - l2) a10 h).bind fun q13 =>
      (g_A 30 q13.2 l0 9).bind fun a14 =>
      (g_A 30 q13.2 l0 5).bind fun a16 =>
      (r_I 100 q13.2 a16 l4).bind fun x18 =>
      (g_A 30 q13.2 l0 1).bind fun a20 =>
      (k_ok 32 q13.2 a14).bind fun _ =>
      (fX33_write N a14 (x18 - l1) a20 q13.2).bind fun q23 =>
      (g_A 30 q23.2 l0 6).bind fun a24 =>
      (r_I 100 q23.2 a24 l4).bind fun x26 =>
      (k_ok 30 q23.2 l0).bind fun _ =>
      (fX31_behind l0 l4 q23.2).bind fun q29 =>
      (g_A 30 q29.2 l0 3).bind fun a30 =>
      (r_I 100 q29.2 a30 l4).bind fun x32 =>
      if ¬ x32 = (-1 : Int32) then
        (g_A 30 q29.2 l0 3).bind fun a35 =>
        (r_I 100 q29.2 a35 l4).bind fun x37 =>
        if x37 = l3 then
          fX31_writeMarks_b149 N (fX31_writeMarks_b9 N n) l0 q29.1 x26 l4 q29.2
        else
          (g_A 30 q29.2 l0 3).bind fun a40 =>
          (r_I 100 q29.2 a40 l4).bind fun x42 =>
          (k_ok 30 q29.2 l0).bind fun _ =>
          (fX31_select N l0 x42 q29.2).bind fun q45 =>
          fX31_writeMarks_b149 N (fX31_writeMarks_b9 N n) l0 q29.1 x26 l4 q45.2
      else
        (g_A 30 q29.2 l0 1).bind fun a46 =>
        (k_ok 31 q29.2 a46).bind fun _ =>
        (fX32_add a46 (137 : Int32) q29.2).bind fun q49 =>
        (g_A 30 q49.2 l0 1).bind fun a50 =>
        (g_A 30 q49.2 l0 7).bind fun a52 =>
        (r_I 100 q49.2 a52 l4).bind fun x54 =>
        (k_ok 31 q49.2 a50).bind fun _ =>
        (fX32_number N a50 x54 (4 : Int32) q49.2).bind fun q57 =>
        (g_A 30 q57.2 l0 1).bind fun a58 =>
        (g_A 30 q57.2 l0 4).bind fun a60 =>
        (r_I 100 q57.2 a60 l4).bind fun x62 =>
        (k_ok 31 q57.2 a58).bind fun _ =>
        (fX32_number N a58 x62 (4 : Int32) q57.2).bind fun q65 =>
        fX31_writeMarks_b194 N (fX31_writeMarks_b9 N n) l0 q29.1 x26 l3 l4 q65.2
theorem pX31_writeMarks_b9 {w : eW} {d : Nat} (hd : 5 ≤ d + 1) {N : Nat} : ∀ (n : Nat) l0 l1 l2 l3 l4 h q, fX31_writeMarks_b9 N n l0 l1 l2 l3 l4 h = some q → wp w (d + 1) YX31_writeMarks 9 [some (.ref l0), some (.int l1), some (.int l2), some (.int l3), some (.int l4)] [] h (e_is (e_rn c_V q)) := by
  intro n
  induction n with
  | zero => intro l0 l1 l2 l3 l4 h q hf; simp [fX31_writeMarks_b9] at hf
  | succ n ih =>
    intro l0 l1 l2 l3 l4 h q hf
    rw [fX31_writeMarks_b9] at hf
    refine w_iload dX31_writeMarks_9 rfl ?_
    refine w_aload_n dX31_writeMarks_11 rfl rfl ?_
    obtain ⟨x1, b2, hf⟩ := Option.bind_eq_some_iff.mp hf
    refine GX31_69 b2 dX31_writeMarks_12 rfl ?_
    refine w_icmp_ge 200 dX31_writeMarks_15 (by decide) (fun c3 => ?_) (fun c3 => ?_)
    · replace hf := (if_pos (show x1 ≤ l4 from c3)).symm.trans hf
      cases hf
      exact w_vret dX31_writeMarks_200 rfl rfl
    · replace hf := (if_neg (show ¬ (x1 ≤ l4) from c3)).symm.trans hf
      refine w_aload_n dX31_writeMarks_18 rfl rfl ?_
      obtain ⟨a4, b5, hf⟩ := Option.bind_eq_some_iff.mp hf
      refine GX31_49 b5 dX31_writeMarks_19 rfl ?_
      refine w_aload_n dX31_writeMarks_22 rfl rfl ?_
      obtain ⟨a6, b7, hf⟩ := Option.bind_eq_some_iff.mp hf
      refine GX31_34 b7 dX31_writeMarks_23 rfl ?_
      refine w_iload dX31_writeMarks_26 rfl ?_
      obtain ⟨x8, b9, hf⟩ := Option.bind_eq_some_iff.mp hf
      refine x_rI b9 dX31_writeMarks_28 ?_
      refine w_iload_n dX31_writeMarks_29 rfl rfl ?_
      refine w_isub dX31_writeMarks_30 ?_
      refine w_aload_n dX31_writeMarks_31 rfl rfl ?_
      obtain ⟨a10, b11, hf⟩ := Option.bind_eq_some_iff.mp hf
      refine GX31_15 b11 dX31_writeMarks_32 rfl ?_
      obtain ⟨_, b12, hf⟩ := Option.bind_eq_some_iff.mp hf
      refine x_cnV hf (e_stV (Yc := YX33_write) (ci := 32) (av := [.int (x8 - l2), .ref a10]) (st := []) dX31_writeMarks_35 q3432 mX33_write rfl (k_ok_some b12).1 (k_ok_some b12).2) mX33_write.2.2.1 mX33_write.2.2.2.2.1 (Nat.le_of_ble_eq_true rfl) (Nat.le_of_ble_eq_true rfl) (fun q hq => pX33_write (by omega) hq) (fun q13 hf => ?_)
      refine w_aload_n dX31_writeMarks_38 rfl rfl ?_
      obtain ⟨a14, b15, hf⟩ := Option.bind_eq_some_iff.mp hf
      refine GX31_45 b15 dX31_writeMarks_39 rfl ?_
      refine w_aload_n dX31_writeMarks_42 rfl rfl ?_
      obtain ⟨a16, b17, hf⟩ := Option.bind_eq_some_iff.mp hf
      refine GX31_31 b17 dX31_writeMarks_43 rfl ?_
      refine w_iload dX31_writeMarks_46 rfl ?_
      obtain ⟨x18, b19, hf⟩ := Option.bind_eq_some_iff.mp hf
      refine x_rI b19 dX31_writeMarks_48 ?_
      refine w_iload_n dX31_writeMarks_49 rfl rfl ?_
      refine w_isub dX31_writeMarks_50 ?_
      refine w_aload_n dX31_writeMarks_51 rfl rfl ?_
      obtain ⟨a20, b21, hf⟩ := Option.bind_eq_some_iff.mp hf
      refine GX31_15 b21 dX31_writeMarks_52 rfl ?_
      obtain ⟨_, b22, hf⟩ := Option.bind_eq_some_iff.mp hf
      refine x_cnV hf (e_stV (Yc := YX33_write) (ci := 32) (av := [.int (x18 - l1), .ref a20]) (st := []) dX31_writeMarks_55 q3432 mX33_write rfl (k_ok_some b22).1 (k_ok_some b22).2) mX33_write.2.2.1 mX33_write.2.2.2.2.1 (Nat.le_of_ble_eq_true rfl) (Nat.le_of_ble_eq_true rfl) (fun q hq => pX33_write (by omega) hq) (fun q23 hf => ?_)
      refine w_aload_n dX31_writeMarks_58 rfl rfl ?_
      obtain ⟨a24, b25, hf⟩ := Option.bind_eq_some_iff.mp hf
      refine GX31_34 b25 dX31_writeMarks_59 rfl ?_
      refine w_iload dX31_writeMarks_62 rfl ?_
      obtain ⟨x26, b27, hf⟩ := Option.bind_eq_some_iff.mp hf
      refine x_rI b27 dX31_writeMarks_64 ?_
      refine w_istore_n dX31_writeMarks_65 rfl (by decide) (ls' := [some (.ref l0), some (.int l1), some (.int x26), some (.int l3), some (.int l4)]) rfl ?_
      refine w_aload_n dX31_writeMarks_66 rfl rfl ?_
      refine w_iload dX31_writeMarks_67 rfl ?_
      obtain ⟨_, b28, hf⟩ := Option.bind_eq_some_iff.mp hf
      refine x_cnI hf (e_stV (Yc := YX31_behind) (ci := 30) (av := [.int l4]) (st := []) dX31_writeMarks_69 q3399 mX31_behind rfl (k_ok_some b28).1 (k_ok_some b28).2) mX31_behind.2.2.1 mX31_behind.2.2.2.2.1 (Nat.le_of_ble_eq_true rfl) (Nat.le_of_ble_eq_true rfl) (fun q hq => pX31_behind (by omega) hq) (fun q29 hf => ?_)
      refine w_istore_n dX31_writeMarks_72 rfl (by decide) (ls' := [some (.ref l0), some (.int q29.1), some (.int x26), some (.int l3), some (.int l4)]) rfl ?_
      refine w_aload_n dX31_writeMarks_73 rfl rfl ?_
      obtain ⟨a30, b31, hf⟩ := Option.bind_eq_some_iff.mp hf
      refine GX31_25 b31 dX31_writeMarks_74 rfl ?_
      refine w_iload dX31_writeMarks_77 rfl ?_
      obtain ⟨x32, b33, hf⟩ := Option.bind_eq_some_iff.mp hf
      refine x_rI b33 dX31_writeMarks_79 ?_
      refine w_iconst dX31_writeMarks_80 (v := -1) (by decide) ?_
      refine w_icmp_ne 127 dX31_writeMarks_81 (by decide) (fun c34 => ?_) (fun c34 => ?_)
      · replace hf := (if_pos (show ¬ x32 = (-1 : Int32) from c34)).symm.trans hf
        refine w_aload_n dX31_writeMarks_127 rfl rfl ?_
        obtain ⟨a35, b36, hf⟩ := Option.bind_eq_some_iff.mp hf
        refine GX31_25 b36 dX31_writeMarks_128 rfl ?_
        refine w_iload dX31_writeMarks_131 rfl ?_
        obtain ⟨x37, b38, hf⟩ := Option.bind_eq_some_iff.mp hf
        refine x_rI b38 dX31_writeMarks_133 ?_
        refine w_iload_n dX31_writeMarks_134 rfl rfl ?_
        refine w_icmp_eq 149 dX31_writeMarks_135 (by decide) (fun c39 => ?_) (fun c39 => ?_)
        · replace hf := (if_pos (show x37 = l3 from c39)).symm.trans hf
          exact (pX31_writeMarks_b149 hd ih hf).to ⟨rfl, rfl, rfl, rfl, trivial⟩
        · replace hf := (if_neg (show ¬ (x37 = l3) from c39)).symm.trans hf
          refine w_aload_n dX31_writeMarks_138 rfl rfl ?_
          refine w_aload_n dX31_writeMarks_139 rfl rfl ?_
          obtain ⟨a40, b41, hf⟩ := Option.bind_eq_some_iff.mp hf
          refine GX31_25 b41 dX31_writeMarks_140 rfl ?_
          refine w_iload dX31_writeMarks_143 rfl ?_
          obtain ⟨x42, b43, hf⟩ := Option.bind_eq_some_iff.mp hf
          refine x_rI b43 dX31_writeMarks_145 ?_
          obtain ⟨_, b44, hf⟩ := Option.bind_eq_some_iff.mp hf
          refine x_cnV hf (e_stV (Yc := YX31_select) (ci := 30) (av := [.int x42]) (st := []) dX31_writeMarks_146 q3453 mX31_select rfl (k_ok_some b44).1 (k_ok_some b44).2) mX31_select.2.2.1 mX31_select.2.2.2.2.1 (Nat.le_of_ble_eq_true rfl) (Nat.le_of_ble_eq_true rfl) (fun q hq => pX31_select (by omega) hq) (fun q45 hf => ?_)
          exact (pX31_writeMarks_b149 hd ih hf).to ⟨rfl, rfl, rfl, rfl, trivial⟩
      · replace hf := (if_neg (show ¬ (¬ x32 = (-1 : Int32)) from (fun z => z c34))).symm.trans hf
        refine w_aload_n dX31_writeMarks_84 rfl rfl ?_
        obtain ⟨a46, b47, hf⟩ := Option.bind_eq_some_iff.mp hf
        refine GX31_15 b47 dX31_writeMarks_85 rfl ?_
        refine w_sipush dX31_writeMarks_88 (v := 137) (by decide) ?_
        obtain ⟨_, b48, hf⟩ := Option.bind_eq_some_iff.mp hf
        refine x_cnV hf (e_stV (Yc := YX32_add) (ci := 31) (av := [.int (137 : Int32)]) (st := []) dX31_writeMarks_91 q3417 mX32_add rfl (k_ok_some b48).1 (k_ok_some b48).2) mX32_add.2.2.1 mX32_add.2.2.2.2.1 (Nat.le_of_ble_eq_true rfl) (Nat.le_of_ble_eq_true rfl) (fun q hq => pX32_add (by omega) hq) (fun q49 hf => ?_)
        refine w_aload_n dX31_writeMarks_94 rfl rfl ?_
        obtain ⟨a50, b51, hf⟩ := Option.bind_eq_some_iff.mp hf
        refine GX31_15 b51 dX31_writeMarks_95 rfl ?_
        refine w_aload_n dX31_writeMarks_98 rfl rfl ?_
        obtain ⟨a52, b53, hf⟩ := Option.bind_eq_some_iff.mp hf
        refine GX31_37 b53 dX31_writeMarks_99 rfl ?_
        refine w_iload dX31_writeMarks_102 rfl ?_
        obtain ⟨x54, b55, hf⟩ := Option.bind_eq_some_iff.mp hf
        refine x_rI b55 dX31_writeMarks_104 ?_
        refine w_iconst dX31_writeMarks_105 (v := 4) (by decide) ?_
        obtain ⟨_, b56, hf⟩ := Option.bind_eq_some_iff.mp hf
        refine x_cnV hf (e_stV (Yc := YX32_number) (ci := 31) (av := [.int x54, .int (4 : Int32)]) (st := []) dX31_writeMarks_106 q3422 mX32_number rfl (k_ok_some b56).1 (k_ok_some b56).2) mX32_number.2.2.1 mX32_number.2.2.2.2.1 (Nat.le_of_ble_eq_true rfl) (Nat.le_of_ble_eq_true rfl) (fun q hq => pX32_number (by omega) hq) (fun q57 hf => ?_)
        refine w_aload_n dX31_writeMarks_109 rfl rfl ?_
        obtain ⟨a58, b59, hf⟩ := Option.bind_eq_some_iff.mp hf
        refine GX31_15 b59 dX31_writeMarks_110 rfl ?_
        refine w_aload_n dX31_writeMarks_113 rfl rfl ?_
        obtain ⟨a60, b61, hf⟩ := Option.bind_eq_some_iff.mp hf
        refine GX31_28 b61 dX31_writeMarks_114 rfl ?_
        refine w_iload dX31_writeMarks_117 rfl ?_
        obtain ⟨x62, b63, hf⟩ := Option.bind_eq_some_iff.mp hf
        refine x_rI b63 dX31_writeMarks_119 ?_
        refine w_iconst dX31_writeMarks_120 (v := 4) (by decide) ?_
        obtain ⟨_, b64, hf⟩ := Option.bind_eq_some_iff.mp hf
        refine x_cnV hf (e_stV (Yc := YX32_number) (ci := 31) (av := [.int x62, .int (4 : Int32)]) (st := []) dX31_writeMarks_121 q3422 mX32_number rfl (k_ok_some b64).1 (k_ok_some b64).2) mX32_number.2.2.1 mX32_number.2.2.2.2.1 (Nat.le_of_ble_eq_true rfl) (Nat.le_of_ble_eq_true rfl) (fun q hq => pX32_number (by omega) hq) (fun q65 hf => ?_)
        refine w_goto 194 dX31_writeMarks_124 (by decide) ?_
        exact (pX31_writeMarks_b194 hd ih hf).to ⟨rfl, rfl, rfl, rfl, rfl, trivial⟩
def fX31_writeMarks (N : Nat) (this : Nat) (h : eH) : Option (Unit × eH) :=
  fX31_writeMarks_b9 N N this (0 : Int32) (0 : Int32) (-1 : Int32) (0 : Int32) h
theorem pX31_writeMarks {w : eW} {d : Nat} (hd : 5 ≤ d) {N : Nat} {this : Nat} {h : eH} {q} (hf : fX31_writeMarks N this h = some q) : wm w d YX31_writeMarks [.ref this] h (e_is (e_rn c_V q)) := by
  obtain ⟨d, rfl⟩ : ∃ e, d = e + 1 := ⟨d - 1, by omega⟩
  show wp w (d + 1) YX31_writeMarks 0 [some (.ref this), none, none, none, none] [] h _
  unfold fX31_writeMarks at hf
  refine w_iconst dX31_writeMarks_0 (v := 0) (by decide) ?_
  refine w_istore_n dX31_writeMarks_1 rfl (by decide) (ls' := [some (.ref this), some (.int (0 : Int32)), none, none, none]) rfl ?_
  refine w_iconst dX31_writeMarks_2 (v := 0) (by decide) ?_
  refine w_istore_n dX31_writeMarks_3 rfl (by decide) (ls' := [some (.ref this), some (.int (0 : Int32)), some (.int (0 : Int32)), none, none]) rfl ?_
  refine w_iconst dX31_writeMarks_4 (v := -1) (by decide) ?_
  refine w_istore_n dX31_writeMarks_5 rfl (by decide) (ls' := [some (.ref this), some (.int (0 : Int32)), some (.int (0 : Int32)), some (.int (-1 : Int32)), none]) rfl ?_
  refine w_iconst dX31_writeMarks_6 (v := 0) (by decide) ?_
  refine w_istore dX31_writeMarks_7 (by decide) (ls' := [some (.ref this), some (.int (0 : Int32)), some (.int (0 : Int32)), some (.int (-1 : Int32)), some (.int (0 : Int32))]) rfl ?_
  exact (pX31_writeMarks_b9 hd N _ _ _ _ _ _ _ hf).to ⟨rfl, rfl, rfl, rfl, rfl, trivial⟩
abbrev cX5_forget : ByteArray := prog_9_method_8_code
def yX5_forget : MethodName := ⟨RX5, "forget", "(I)V"⟩
def YX5_forget : eY := (yX5_forget, cX5_forget, 2, none, [])
theorem mX5_forget : e_mv YX5_forget RX5 1 := ⟨q3470, q3471, q3472, by decide, by decide +kernel, (e_sig (by decide +kernel))⟩
theorem dX5_forget_0 : decode cX5_forget 0 = .ok (.aload_n 0, 1) := dc_42 (by decide +kernel)
theorem dX5_forget_1 : decode cX5_forget 1 = .ok (.getfield 43, 3) := dc_180 (a := 0) (b := 43) (n := 43) (by decide +kernel)
theorem dX5_forget_4 : decode cX5_forget 4 = .ok (.iload_n 1, 1) := dc_27 (by decide +kernel)
theorem dX5_forget_5 : decode cX5_forget 5 = .ok (.if_icmp .le 28, 3) := dc_164 (a := 0) (b := 28) (v := 28) (by decide +kernel)
theorem dX5_forget_8 : decode cX5_forget 8 = .ok (.aload_n 0, 1) := dc_42 (by decide +kernel)
theorem dX5_forget_9 : decode cX5_forget 9 = .ok (.getfield 27, 3) := dc_180 (a := 0) (b := 27) (n := 27) (by decide +kernel)
theorem dX5_forget_12 : decode cX5_forget 12 = .ok (.aload_n 0, 1) := dc_42 (by decide +kernel)
theorem dX5_forget_13 : decode cX5_forget 13 = .ok (.getfield 31, 3) := dc_180 (a := 0) (b := 31) (n := 31) (by decide +kernel)
theorem dX5_forget_16 : decode cX5_forget 16 = .ok (.aload_n 0, 1) := dc_42 (by decide +kernel)
theorem dX5_forget_17 : decode cX5_forget 17 = .ok (.dup, 1) := dc_89 (by decide +kernel)
theorem dX5_forget_18 : decode cX5_forget 18 = .ok (.getfield 43, 3) := dc_180 (a := 0) (b := 43) (n := 43) (by decide +kernel)
theorem dX5_forget_21 : decode cX5_forget 21 = .ok (.iconst 1, 1) := dc_4 (by decide +kernel)
theorem dX5_forget_22 : decode cX5_forget 22 = .ok (.isub, 1) := dc_100 (by decide +kernel)
theorem dX5_forget_23 : decode cX5_forget 23 = .ok (.dup_x1, 1) := dc_90 (by decide +kernel)
theorem dX5_forget_24 : decode cX5_forget 24 = .ok (.putfield 43, 3) := dc_181 (a := 0) (b := 43) (n := 43) (by decide +kernel)
theorem dX5_forget_27 : decode cX5_forget 27 = .ok (.iaload, 1) := dc_46 (by decide +kernel)
theorem dX5_forget_28 : decode cX5_forget 28 = .ok (.iconst 0, 1) := dc_3 (by decide +kernel)
theorem dX5_forget_29 : decode cX5_forget 29 = .ok (.bastore, 1) := dc_84 (by decide +kernel)
theorem dX5_forget_30 : decode cX5_forget 30 = .ok (.goto (-30), 3) := dc_167 (a := 255) (b := 226) (v := -30) (by decide +kernel)
theorem dX5_forget_33 : decode cX5_forget 33 = .ok (.return_, 1) := dc_177 (by decide +kernel)
def fX5_forget_b0 (N : Nat) : Nat → Nat → Int32 → eH → Option (Unit × eH)
  | 0, _, _, _ => none
  | n + 1, l0, l1, h =>
    (g_I 4 h l0 6).bind fun x1 =>
    if x1 ≤ l1 then
      some ((), h)
    else
      (g_A 4 h l0 4).bind fun a4 =>
      (g_A 4 h l0 5).bind fun a6 =>
      (g_I 4 h l0 6).bind fun x8 =>
      (p_V 4 h l0 6 (.int (x8 - (1 : Int32)))).bind fun h10 =>
      (r_I 100 h10 a6 (x8 - (1 : Int32))).bind fun x12 =>
      (q_V 103 h10 a4 x12 (.int ((0 : Int32) &&& 1))).bind fun h14 =>
      fX5_forget_b0 N n l0 l1 h14
theorem pX5_forget_b0 {w : eW} {d : Nat} (hd : 0 ≤ d) {N : Nat} : ∀ (n : Nat) l0 l1 h q, fX5_forget_b0 N n l0 l1 h = some q → wp w d YX5_forget 0 [some (.ref l0), some (.int l1)] [] h (e_is (e_rn c_V q)) := by
  intro n
  induction n with
  | zero => intro l0 l1 h q hf; simp [fX5_forget_b0] at hf
  | succ n ih =>
    intro l0 l1 h q hf
    rw [fX5_forget_b0] at hf
    refine w_aload_n dX5_forget_0 rfl rfl ?_
    obtain ⟨x1, b2, hf⟩ := Option.bind_eq_some_iff.mp hf
    refine GX5_43 b2 dX5_forget_1 rfl ?_
    refine w_iload_n dX5_forget_4 rfl rfl ?_
    refine w_icmp_le 33 dX5_forget_5 (by decide) (fun c3 => ?_) (fun c3 => ?_)
    · replace hf := (if_pos (show x1 ≤ l1 from c3)).symm.trans hf
      cases hf
      exact w_vret dX5_forget_33 rfl rfl
    · replace hf := (if_neg (show ¬ (x1 ≤ l1) from c3)).symm.trans hf
      refine w_aload_n dX5_forget_8 rfl rfl ?_
      obtain ⟨a4, b5, hf⟩ := Option.bind_eq_some_iff.mp hf
      refine GX5_27 b5 dX5_forget_9 rfl ?_
      refine w_aload_n dX5_forget_12 rfl rfl ?_
      obtain ⟨a6, b7, hf⟩ := Option.bind_eq_some_iff.mp hf
      refine GX5_31 b7 dX5_forget_13 rfl ?_
      refine w_aload_n dX5_forget_16 rfl rfl ?_
      refine w_dup dX5_forget_17 rfl ?_
      obtain ⟨x8, b9, hf⟩ := Option.bind_eq_some_iff.mp hf
      refine GX5_43 b9 dX5_forget_18 rfl ?_
      refine w_iconst dX5_forget_21 (v := 1) (by decide) ?_
      refine w_isub dX5_forget_22 ?_
      refine w_dup_x1 dX5_forget_23 rfl rfl ?_
      obtain ⟨h10, b11, hf⟩ := Option.bind_eq_some_iff.mp hf
      refine SX5_43 b11 dX5_forget_24 rfl ?_
      obtain ⟨x12, b13, hf⟩ := Option.bind_eq_some_iff.mp hf
      refine x_rI b13 dX5_forget_27 ?_
      refine w_iconst dX5_forget_28 (v := 0) (by decide) ?_
      obtain ⟨h14, b15, hf⟩ := Option.bind_eq_some_iff.mp hf
      refine x_qZ b15 dX5_forget_29 ?_
      refine w_goto 0 dX5_forget_30 (by decide) ?_
      exact (ih _ _ _ _ hf).to ⟨rfl, rfl, trivial⟩
def fX5_forget (N : Nat) (this : Nat) (p0 : Int32) (h : eH) : Option (Unit × eH) :=
  fX5_forget_b0 N N this p0 h
theorem pX5_forget {w : eW} {d : Nat} (hd : 0 ≤ d) {N : Nat} {this : Nat} {p0 : Int32} {h : eH} {q} (hf : fX5_forget N this p0 h = some q) : wm w d YX5_forget [.ref this, .int p0] h (e_is (e_rn c_V q)) := by
  show wp w d YX5_forget 0 [some (.ref this), some (.int p0)] [] h _
  unfold fX5_forget at hf
  exact (pX5_forget_b0 hd N _ _ _ _ hf).to ⟨rfl, rfl, trivial⟩
abbrev cX31_ship : ByteArray := prog_35_method_9_code
def yX31_ship : MethodName := ⟨RX31, "ship", "(Z)Z"⟩
def YX31_ship : eY := (yX31_ship, cX31_ship, 7, (Option.some FieldType.boolean), [])
theorem mX31_ship : e_mv YX31_ship RX31 1 := ⟨q3384, q3385, q3386, by decide, by decide +kernel, (e_sig (by decide +kernel))⟩
theorem dX31_ship_0 : decode cX31_ship 0 = .ok (.aload_n 0, 1) := dc_42 (by decide +kernel)
theorem dX31_ship_1 : decode cX31_ship 1 = .ok (.invokevirtual 128, 3) := dc_182 (a := 0) (b := 128) (n := 128) (by decide +kernel)
theorem dX31_ship_4 : decode cX31_ship 4 = .ok (.aload_n 0, 1) := dc_42 (by decide +kernel)
theorem dX31_ship_5 : decode cX31_ship 5 = .ok (.getfield 15, 3) := dc_180 (a := 0) (b := 15) (n := 15) (by decide +kernel)
theorem dX31_ship_8 : decode cX31_ship 8 = .ok (.getfield 66, 3) := dc_180 (a := 0) (b := 66) (n := 66) (by decide +kernel)
theorem dX31_ship_11 : decode cX31_ship 11 = .ok (.istore_n 2, 1) := dc_61 (by decide +kernel)
theorem dX31_ship_12 : decode cX31_ship 12 = .ok (.aload_n 0, 1) := dc_42 (by decide +kernel)
theorem dX31_ship_13 : decode cX31_ship 13 = .ok (.getfield 56, 3) := dc_180 (a := 0) (b := 56) (n := 56) (by decide +kernel)
theorem dX31_ship_16 : decode cX31_ship 16 = .ok (.getfield 131, 3) := dc_180 (a := 0) (b := 131) (n := 131) (by decide +kernel)
theorem dX31_ship_19 : decode cX31_ship 19 = .ok (.istore_n 3, 1) := dc_62 (by decide +kernel)
theorem dX31_ship_20 : decode cX31_ship 20 = .ok (.aload_n 0, 1) := dc_42 (by decide +kernel)
theorem dX31_ship_21 : decode cX31_ship 21 = .ok (.invokevirtual 134, 3) := dc_182 (a := 0) (b := 134) (n := 134) (by decide +kernel)
theorem dX31_ship_24 : decode cX31_ship 24 = .ok (.aload_n 0, 1) := dc_42 (by decide +kernel)
theorem dX31_ship_25 : decode cX31_ship 25 = .ok (.getfield 15, 3) := dc_180 (a := 0) (b := 15) (n := 15) (by decide +kernel)
theorem dX31_ship_28 : decode cX31_ship 28 = .ok (.getfield 66, 3) := dc_180 (a := 0) (b := 66) (n := 66) (by decide +kernel)
theorem dX31_ship_31 : decode cX31_ship 31 = .ok (.istore 4, 2) := dc_54 (a := 4) (by decide +kernel)
theorem dX31_ship_33 : decode cX31_ship 33 = .ok (.aload_n 0, 1) := dc_42 (by decide +kernel)
theorem dX31_ship_34 : decode cX31_ship 34 = .ok (.getfield 15, 3) := dc_180 (a := 0) (b := 15) (n := 15) (by decide +kernel)
theorem dX31_ship_37 : decode cX31_ship 37 = .ok (.sipush 139, 3) := dc_17 (a := 0) (b := 139) (v := 139) (by decide +kernel)
theorem dX31_ship_40 : decode cX31_ship 40 = .ok (.invokevirtual 105, 3) := dc_182 (a := 0) (b := 105) (n := 105) (by decide +kernel)
theorem dX31_ship_43 : decode cX31_ship 43 = .ok (.iconst 0, 1) := dc_3 (by decide +kernel)
theorem dX31_ship_44 : decode cX31_ship 44 = .ok (.istore 5, 2) := dc_54 (a := 5) (by decide +kernel)
theorem dX31_ship_46 : decode cX31_ship 46 = .ok (.iload 5, 2) := dc_21 (a := 5) (by decide +kernel)
theorem dX31_ship_48 : decode cX31_ship 48 = .ok (.bipush 10, 2) := dc_16 (a := 10) (v := 10) (by decide +kernel)
theorem dX31_ship_50 : decode cX31_ship 50 = .ok (.if_icmp .ge 24, 3) := dc_162 (a := 0) (b := 24) (v := 24) (by decide +kernel)
theorem dX31_ship_53 : decode cX31_ship 53 = .ok (.aload_n 0, 1) := dc_42 (by decide +kernel)
theorem dX31_ship_54 : decode cX31_ship 54 = .ok (.getfield 15, 3) := dc_180 (a := 0) (b := 15) (n := 15) (by decide +kernel)
theorem dX31_ship_57 : decode cX31_ship 57 = .ok (.aload_n 0, 1) := dc_42 (by decide +kernel)
theorem dX31_ship_58 : decode cX31_ship 58 = .ok (.getfield 21, 3) := dc_180 (a := 0) (b := 21) (n := 21) (by decide +kernel)
theorem dX31_ship_61 : decode cX31_ship 61 = .ok (.iload 5, 2) := dc_21 (a := 5) (by decide +kernel)
theorem dX31_ship_63 : decode cX31_ship 63 = .ok (.iaload, 1) := dc_46 (by decide +kernel)
theorem dX31_ship_64 : decode cX31_ship 64 = .ok (.iconst 4, 1) := dc_7 (by decide +kernel)
theorem dX31_ship_65 : decode cX31_ship 65 = .ok (.invokevirtual 107, 3) := dc_182 (a := 0) (b := 107) (n := 107) (by decide +kernel)
theorem dX31_ship_68 : decode cX31_ship 68 = .ok (.iinc 5 1, 3) := dc_132 (a := 5) (b := 1) (v := 1) (by decide +kernel)
theorem dX31_ship_71 : decode cX31_ship 71 = .ok (.goto (-25), 3) := dc_167 (a := 255) (b := 231) (v := -25) (by decide +kernel)
theorem dX31_ship_74 : decode cX31_ship 74 = .ok (.aload_n 0, 1) := dc_42 (by decide +kernel)
theorem dX31_ship_75 : decode cX31_ship 75 = .ok (.getfield 15, 3) := dc_180 (a := 0) (b := 15) (n := 15) (by decide +kernel)
theorem dX31_ship_78 : decode cX31_ship 78 = .ok (.aload_n 0, 1) := dc_42 (by decide +kernel)
theorem dX31_ship_79 : decode cX31_ship 79 = .ok (.getfield 52, 3) := dc_180 (a := 0) (b := 52) (n := 52) (by decide +kernel)
theorem dX31_ship_82 : decode cX31_ship 82 = .ok (.iconst 4, 1) := dc_7 (by decide +kernel)
theorem dX31_ship_83 : decode cX31_ship 83 = .ok (.invokevirtual 107, 3) := dc_182 (a := 0) (b := 107) (n := 107) (by decide +kernel)
theorem dX31_ship_86 : decode cX31_ship 86 = .ok (.aload_n 0, 1) := dc_42 (by decide +kernel)
theorem dX31_ship_87 : decode cX31_ship 87 = .ok (.getfield 15, 3) := dc_180 (a := 0) (b := 15) (n := 15) (by decide +kernel)
theorem dX31_ship_90 : decode cX31_ship 90 = .ok (.sipush 141, 3) := dc_17 (a := 0) (b := 141) (v := 141) (by decide +kernel)
theorem dX31_ship_93 : decode cX31_ship 93 = .ok (.invokevirtual 105, 3) := dc_182 (a := 0) (b := 105) (n := 105) (by decide +kernel)
theorem dX31_ship_96 : decode cX31_ship 96 = .ok (.aload_n 0, 1) := dc_42 (by decide +kernel)
theorem dX31_ship_97 : decode cX31_ship 97 = .ok (.invokevirtual 137, 3) := dc_182 (a := 0) (b := 137) (n := 137) (by decide +kernel)
theorem dX31_ship_100 : decode cX31_ship 100 = .ok (.aload_n 0, 1) := dc_42 (by decide +kernel)
theorem dX31_ship_101 : decode cX31_ship 101 = .ok (.getfield 15, 3) := dc_180 (a := 0) (b := 15) (n := 15) (by decide +kernel)
theorem dX31_ship_104 : decode cX31_ship 104 = .ok (.sipush 142, 3) := dc_17 (a := 0) (b := 142) (v := 142) (by decide +kernel)
theorem dX31_ship_107 : decode cX31_ship 107 = .ok (.invokevirtual 105, 3) := dc_182 (a := 0) (b := 105) (n := 105) (by decide +kernel)
theorem dX31_ship_110 : decode cX31_ship 110 = .ok (.aload_n 0, 1) := dc_42 (by decide +kernel)
theorem dX31_ship_111 : decode cX31_ship 111 = .ok (.getfield 15, 3) := dc_180 (a := 0) (b := 15) (n := 15) (by decide +kernel)
theorem dX31_ship_114 : decode cX31_ship 114 = .ok (.sipush 140, 3) := dc_17 (a := 0) (b := 140) (v := 140) (by decide +kernel)
theorem dX31_ship_117 : decode cX31_ship 117 = .ok (.invokevirtual 105, 3) := dc_182 (a := 0) (b := 105) (n := 105) (by decide +kernel)
theorem dX31_ship_120 : decode cX31_ship 120 = .ok (.aload_n 0, 1) := dc_42 (by decide +kernel)
theorem dX31_ship_121 : decode cX31_ship 121 = .ok (.getfield 15, 3) := dc_180 (a := 0) (b := 15) (n := 15) (by decide +kernel)
theorem dX31_ship_124 : decode cX31_ship 124 = .ok (.getfield 66, 3) := dc_180 (a := 0) (b := 66) (n := 66) (by decide +kernel)
theorem dX31_ship_127 : decode cX31_ship 127 = .ok (.ldc 140, 2) := dc_18 (a := 140) (by decide +kernel)
theorem dX31_ship_129 : decode cX31_ship 129 = .ok (.if_icmp .gt 7, 3) := dc_163 (a := 0) (b := 7) (v := 7) (by decide +kernel)
theorem dX31_ship_132 : decode cX31_ship 132 = .ok (.iconst 1, 1) := dc_4 (by decide +kernel)
theorem dX31_ship_133 : decode cX31_ship 133 = .ok (.goto 4, 3) := dc_167 (a := 0) (b := 4) (v := 4) (by decide +kernel)
theorem dX31_ship_136 : decode cX31_ship 136 = .ok (.iconst 0, 1) := dc_3 (by decide +kernel)
theorem dX31_ship_137 : decode cX31_ship 137 = .ok (.istore 5, 2) := dc_54 (a := 5) (by decide +kernel)
theorem dX31_ship_139 : decode cX31_ship 139 = .ok (.iload 5, 2) := dc_21 (a := 5) (by decide +kernel)
theorem dX31_ship_141 : decode cX31_ship 141 = .ok (.ifCond .eq 7, 3) := dc_153 (a := 0) (b := 7) (v := 7) (by decide +kernel)
theorem dX31_ship_144 : decode cX31_ship 144 = .ok (.iload_n 1, 1) := dc_27 (by decide +kernel)
theorem dX31_ship_145 : decode cX31_ship 145 = .ok (.ifCond .ne 22, 3) := dc_154 (a := 0) (b := 22) (v := 22) (by decide +kernel)
theorem dX31_ship_148 : decode cX31_ship 148 = .ok (.aload_n 0, 1) := dc_42 (by decide +kernel)
theorem dX31_ship_149 : decode cX31_ship 149 = .ok (.getfield 15, 3) := dc_180 (a := 0) (b := 15) (n := 15) (by decide +kernel)
theorem dX31_ship_152 : decode cX31_ship 152 = .ok (.iload_n 2, 1) := dc_28 (by decide +kernel)
theorem dX31_ship_153 : decode cX31_ship 153 = .ok (.putfield 66, 3) := dc_181 (a := 0) (b := 66) (n := 66) (by decide +kernel)
theorem dX31_ship_156 : decode cX31_ship 156 = .ok (.aload_n 0, 1) := dc_42 (by decide +kernel)
theorem dX31_ship_157 : decode cX31_ship 157 = .ok (.getfield 56, 3) := dc_180 (a := 0) (b := 56) (n := 56) (by decide +kernel)
theorem dX31_ship_160 : decode cX31_ship 160 = .ok (.iload_n 3, 1) := dc_29 (by decide +kernel)
theorem dX31_ship_161 : decode cX31_ship 161 = .ok (.invokevirtual 141, 3) := dc_182 (a := 0) (b := 141) (n := 141) (by decide +kernel)
theorem dX31_ship_164 : decode cX31_ship 164 = .ok (.iload 5, 2) := dc_21 (a := 5) (by decide +kernel)
theorem dX31_ship_166 : decode cX31_ship 166 = .ok (.ireturn, 1) := dc_172 (by decide +kernel)
theorem dX31_ship_167 : decode cX31_ship 167 = .ok (.iconst 0, 1) := dc_3 (by decide +kernel)
theorem dX31_ship_168 : decode cX31_ship 168 = .ok (.istore 6, 2) := dc_54 (a := 6) (by decide +kernel)
theorem dX31_ship_170 : decode cX31_ship 170 = .ok (.iload 6, 2) := dc_21 (a := 6) (by decide +kernel)
theorem dX31_ship_172 : decode cX31_ship 172 = .ok (.aload_n 0, 1) := dc_42 (by decide +kernel)
theorem dX31_ship_173 : decode cX31_ship 173 = .ok (.getfield 69, 3) := dc_180 (a := 0) (b := 69) (n := 69) (by decide +kernel)
theorem dX31_ship_176 : decode cX31_ship 176 = .ok (.if_icmp .ge 44, 3) := dc_162 (a := 0) (b := 44) (v := 44) (by decide +kernel)
theorem dX31_ship_179 : decode cX31_ship 179 = .ok (.aload_n 0, 1) := dc_42 (by decide +kernel)
theorem dX31_ship_180 : decode cX31_ship 180 = .ok (.aload_n 0, 1) := dc_42 (by decide +kernel)
theorem dX31_ship_181 : decode cX31_ship 181 = .ok (.getfield 75, 3) := dc_180 (a := 0) (b := 75) (n := 75) (by decide +kernel)
theorem dX31_ship_184 : decode cX31_ship 184 = .ok (.aload_n 0, 1) := dc_42 (by decide +kernel)
theorem dX31_ship_185 : decode cX31_ship 185 = .ok (.getfield 34, 3) := dc_180 (a := 0) (b := 34) (n := 34) (by decide +kernel)
theorem dX31_ship_188 : decode cX31_ship 188 = .ok (.iload 6, 2) := dc_21 (a := 6) (by decide +kernel)
theorem dX31_ship_190 : decode cX31_ship 190 = .ok (.iaload, 1) := dc_46 (by decide +kernel)
theorem dX31_ship_191 : decode cX31_ship 191 = .ok (.invokestatic 144, 3) := dc_184 (a := 0) (b := 144) (n := 144) (by decide +kernel)
theorem dX31_ship_194 : decode cX31_ship 194 = .ok (.putfield 75, 3) := dc_181 (a := 0) (b := 75) (n := 75) (by decide +kernel)
theorem dX31_ship_197 : decode cX31_ship 197 = .ok (.aload_n 0, 1) := dc_42 (by decide +kernel)
theorem dX31_ship_198 : decode cX31_ship 198 = .ok (.aload_n 0, 1) := dc_42 (by decide +kernel)
theorem dX31_ship_199 : decode cX31_ship 199 = .ok (.getfield 78, 3) := dc_180 (a := 0) (b := 78) (n := 78) (by decide +kernel)
theorem dX31_ship_202 : decode cX31_ship 202 = .ok (.aload_n 0, 1) := dc_42 (by decide +kernel)
theorem dX31_ship_203 : decode cX31_ship 203 = .ok (.iload 6, 2) := dc_21 (a := 6) (by decide +kernel)
theorem dX31_ship_205 : decode cX31_ship 205 = .ok (.invokevirtual 98, 3) := dc_182 (a := 0) (b := 98) (n := 98) (by decide +kernel)
theorem dX31_ship_208 : decode cX31_ship 208 = .ok (.invokestatic 144, 3) := dc_184 (a := 0) (b := 144) (n := 144) (by decide +kernel)
theorem dX31_ship_211 : decode cX31_ship 211 = .ok (.putfield 78, 3) := dc_181 (a := 0) (b := 78) (n := 78) (by decide +kernel)
theorem dX31_ship_214 : decode cX31_ship 214 = .ok (.iinc 6 1, 3) := dc_132 (a := 6) (b := 1) (v := 1) (by decide +kernel)
theorem dX31_ship_217 : decode cX31_ship 217 = .ok (.goto (-47), 3) := dc_167 (a := 255) (b := 209) (v := -47) (by decide +kernel)
theorem dX31_ship_220 : decode cX31_ship 220 = .ok (.aload_n 0, 1) := dc_42 (by decide +kernel)
theorem dX31_ship_221 : decode cX31_ship 221 = .ok (.iload 4, 2) := dc_21 (a := 4) (by decide +kernel)
theorem dX31_ship_223 : decode cX31_ship 223 = .ok (.putfield 52, 3) := dc_181 (a := 0) (b := 52) (n := 52) (by decide +kernel)
theorem dX31_ship_226 : decode cX31_ship 226 = .ok (.aload_n 0, 1) := dc_42 (by decide +kernel)
theorem dX31_ship_227 : decode cX31_ship 227 = .ok (.dup, 1) := dc_89 (by decide +kernel)
theorem dX31_ship_228 : decode cX31_ship 228 = .ok (.getfield 72, 3) := dc_180 (a := 0) (b := 72) (n := 72) (by decide +kernel)
theorem dX31_ship_231 : decode cX31_ship 231 = .ok (.iconst 1, 1) := dc_4 (by decide +kernel)
theorem dX31_ship_232 : decode cX31_ship 232 = .ok (.iadd, 1) := dc_96 (by decide +kernel)
theorem dX31_ship_233 : decode cX31_ship 233 = .ok (.putfield 72, 3) := dc_181 (a := 0) (b := 72) (n := 72) (by decide +kernel)
theorem dX31_ship_236 : decode cX31_ship 236 = .ok (.aload_n 0, 1) := dc_42 (by decide +kernel)
theorem dX31_ship_237 : decode cX31_ship 237 = .ok (.iconst 0, 1) := dc_3 (by decide +kernel)
theorem dX31_ship_238 : decode cX31_ship 238 = .ok (.putfield 69, 3) := dc_181 (a := 0) (b := 69) (n := 69) (by decide +kernel)
theorem dX31_ship_241 : decode cX31_ship 241 = .ok (.iconst 1, 1) := dc_4 (by decide +kernel)
theorem dX31_ship_242 : decode cX31_ship 242 = .ok (.ireturn, 1) := dc_172 (by decide +kernel)
theorem GX31_131 {w : eW} {d : Nat} {Y : eY} {pc : Nat} {ls : eL} {st : List Value} {h : eH} {Q : eO → eH → Prop} {a : Nat} {x : Int32} (hf : g_I 4 h a 6 = some x) (hd : decode Y.2.1 pc = .ok (.getfield 131, 3)) (hY : Y.1.cls = RX31) (kk : wp w d Y (pc + 3) ls (.int x :: st) h Q) : wp w d Y pc ls (.ref a :: st) h Q := x_gIN (ci := 4) (k := 6) hf hd rfl (by decide) (by rw [hY]; exact q595) kk
theorem GX31_21 {w : eW} {d : Nat} {Y : eY} {pc : Nat} {ls : eL} {st : List Value} {h : eH} {Q : eO → eH → Prop} {a : Nat} {x : Nat} (hf : g_A 30 h a 2 = some x) (hd : decode Y.2.1 pc = .ok (.getfield 21, 3)) (hY : Y.1.cls = RX31) (kk : wp w d Y (pc + 3) ls (.ref x :: st) h Q) : wp w d Y pc ls (.ref a :: st) h Q := x_gA (ci := 30) (k := 2) hf hd rfl (by decide) (by rw [hY]; exact q1717) kk
theorem GX31_52 {w : eW} {d : Nat} {Y : eY} {pc : Nat} {ls : eL} {st : List Value} {h : eH} {Q : eO → eH → Prop} {a : Nat} {x : Int32} (hf : g_I 30 h a 14 = some x) (hd : decode Y.2.1 pc = .ok (.getfield 52, 3)) (hY : Y.1.cls = RX31) (kk : wp w d Y (pc + 3) ls (.int x :: st) h Q) : wp w d Y pc ls (.ref a :: st) h Q := x_gI (ci := 30) (k := 14) hf hd rfl (by decide) (by rw [hY]; exact q1732) kk
theorem GX31_72 {w : eW} {d : Nat} {Y : eY} {pc : Nat} {ls : eL} {st : List Value} {h : eH} {Q : eO → eH → Prop} {a : Nat} {x : Int32} (hf : g_I 30 h a 13 = some x) (hd : decode Y.2.1 pc = .ok (.getfield 72, 3)) (hY : Y.1.cls = RX31) (kk : wp w d Y (pc + 3) ls (.int x :: st) h Q) : wp w d Y pc ls (.ref a :: st) h Q := x_gI (ci := 30) (k := 13) hf hd rfl (by decide) (by rw [hY]; exact q1730) kk
theorem GX31_75 {w : eW} {d : Nat} {Y : eY} {pc : Nat} {ls : eL} {st : List Value} {h : eH} {Q : eO → eH → Prop} {a : Nat} {x : Int32} (hf : g_I 30 h a 15 = some x) (hd : decode Y.2.1 pc = .ok (.getfield 75, 3)) (hY : Y.1.cls = RX31) (kk : wp w d Y (pc + 3) ls (.int x :: st) h Q) : wp w d Y pc ls (.ref a :: st) h Q := x_gI (ci := 30) (k := 15) hf hd rfl (by decide) (by rw [hY]; exact q1733) kk
theorem GX31_78 {w : eW} {d : Nat} {Y : eY} {pc : Nat} {ls : eL} {st : List Value} {h : eH} {Q : eO → eH → Prop} {a : Nat} {x : Int32} (hf : g_I 30 h a 16 = some x) (hd : decode Y.2.1 pc = .ok (.getfield 78, 3)) (hY : Y.1.cls = RX31) (kk : wp w d Y (pc + 3) ls (.int x :: st) h Q) : wp w d Y pc ls (.ref a :: st) h Q := x_gI (ci := 30) (k := 16) hf hd rfl (by decide) (by rw [hY]; exact q1734) kk
def fX31_ship_b148 (N : Nat) (l0 : Nat) (l2 : Int32) (l3 : Int32) (l5 : Int32) (h : eH) : Option (Int32 × eH) :=
  (g_A 30 h l0 1).bind fun a1 =>
  (p_V 31 h a1 1 (.int l2)).bind fun h3 =>
  (g_A 30 h3 l0 0).bind fun a5 =>
  (k_ok 4 h3 a5).bind fun _ =>
  (fX5_forget N a5 l3 h3).bind fun q8 =>
  z_r l5 (l5, q8.2)
theorem pX31_ship_b148 {w : eW} {d : Nat} (hd : 6 ≤ d + 1) {N : Nat} {l0 : Nat} {l2 : Int32} {l3 : Int32} {l5 : Int32} {h : eH} {q} (hf : fX31_ship_b148 N l0 l2 l3 l5 h = some q) : wp w (d + 1) YX31_ship 148 [some (.ref l0), none, some (.int l2), some (.int l3), none, some (.int l5), none] [] h (e_is (e_rn c_I q)) := by
  unfold fX31_ship_b148 at hf
  refine w_aload_n dX31_ship_148 rfl rfl ?_
  obtain ⟨a1, b2, hf⟩ := Option.bind_eq_some_iff.mp hf
  refine GX31_15 b2 dX31_ship_149 rfl ?_
  refine w_iload_n dX31_ship_152 rfl rfl ?_
  obtain ⟨h3, b4, hf⟩ := Option.bind_eq_some_iff.mp hf
  refine SX31_66 b4 dX31_ship_153 rfl ?_
  refine w_aload_n dX31_ship_156 rfl rfl ?_
  obtain ⟨a5, b6, hf⟩ := Option.bind_eq_some_iff.mp hf
  refine GX31_56 b6 dX31_ship_157 rfl ?_
  refine w_iload_n dX31_ship_160 rfl rfl ?_
  obtain ⟨_, b7, hf⟩ := Option.bind_eq_some_iff.mp hf
  refine x_cnV hf (e_stV (Yc := YX5_forget) (ci := 4) (av := [.int l3]) (st := []) dX31_ship_161 q3469 mX5_forget rfl (k_ok_some b7).1 (k_ok_some b7).2) mX5_forget.2.2.1 mX5_forget.2.2.2.2.1 (Nat.le_of_ble_eq_true rfl) (Nat.le_of_ble_eq_true rfl) (fun q hq => pX5_forget (by omega) hq) (fun q8 hf => ?_)
  refine w_iload dX31_ship_164 rfl ?_
  obtain ⟨b9, rfl⟩ := z_r_some hf
  exact w_iret dX31_ship_166 rfl b9 rfl
def fX31_ship_b170 (N : Nat) : Nat → Nat → Int32 → Int32 → eH → Option (Int32 × eH)
  | 0, _, _, _, _ => none
  | n + 1, l0, l4, l6, h =>
    (g_I 30 h l0 8).bind fun x1 =>
    if x1 ≤ l6 then
      (p_V 30 h l0 14 (.int l4)).bind fun h4 =>
      (g_I 30 h4 l0 13).bind fun x6 =>
      (p_V 30 h4 l0 13 (.int (x6 + (1 : Int32)))).bind fun h8 =>
      (p_V 30 h8 l0 8 (.int (0 : Int32))).bind fun h10 =>
      some ((1 : Int32), h10)
    else
      (g_I 30 h l0 15).bind fun x12 =>
      (g_A 30 h l0 6).bind fun a14 =>
      (r_I 100 h a14 l6).bind fun x16 =>
      (p_V 30 h l0 15 (.int (m_maxI x12 x16))).bind fun h18 =>
      (g_I 30 h18 l0 16).bind fun x20 =>
      (k_ok 30 h18 l0).bind fun _ =>
      (fX31_behind l0 l6 h18).bind fun q23 =>
      (p_V 30 q23.2 l0 16 (.int (m_maxI x20 q23.1))).bind fun h24 =>
      fX31_ship_b170 N n l0 l4 (l6 + (1 : Int32)) h24
theorem pX31_ship_b170 {w : eW} {d : Nat} (hd : 6 ≤ d + 1) {N : Nat} : ∀ (n : Nat) l0 l4 l6 h q, fX31_ship_b170 N n l0 l4 l6 h = some q → wp w (d + 1) YX31_ship 170 [some (.ref l0), none, none, none, some (.int l4), none, some (.int l6)] [] h (e_is (e_rn c_I q)) := by
  intro n
  induction n with
  | zero => intro l0 l4 l6 h q hf; simp [fX31_ship_b170] at hf
  | succ n ih =>
    intro l0 l4 l6 h q hf
    rw [fX31_ship_b170] at hf
    refine w_iload dX31_ship_170 rfl ?_
    refine w_aload_n dX31_ship_172 rfl rfl ?_
    obtain ⟨x1, b2, hf⟩ := Option.bind_eq_some_iff.mp hf
    refine GX31_69 b2 dX31_ship_173 rfl ?_
    refine w_icmp_ge 220 dX31_ship_176 (by decide) (fun c3 => ?_) (fun c3 => ?_)
    · replace hf := (if_pos (show x1 ≤ l6 from c3)).symm.trans hf
      refine w_aload_n dX31_ship_220 rfl rfl ?_
      refine w_iload dX31_ship_221 rfl ?_
      obtain ⟨h4, b5, hf⟩ := Option.bind_eq_some_iff.mp hf
      refine SX31_52 b5 dX31_ship_223 rfl ?_
      refine w_aload_n dX31_ship_226 rfl rfl ?_
      refine w_dup dX31_ship_227 rfl ?_
      obtain ⟨x6, b7, hf⟩ := Option.bind_eq_some_iff.mp hf
      refine GX31_72 b7 dX31_ship_228 rfl ?_
      refine w_iconst dX31_ship_231 (v := 1) (by decide) ?_
      refine w_iadd dX31_ship_232 ?_
      obtain ⟨h8, b9, hf⟩ := Option.bind_eq_some_iff.mp hf
      refine SX31_72 b9 dX31_ship_233 rfl ?_
      refine w_aload_n dX31_ship_236 rfl rfl ?_
      refine w_iconst dX31_ship_237 (v := 0) (by decide) ?_
      obtain ⟨h10, b11, hf⟩ := Option.bind_eq_some_iff.mp hf
      refine SX31_69 b11 dX31_ship_238 rfl ?_
      refine w_iconst dX31_ship_241 (v := 1) (by decide) ?_
      cases hf
      exact w_iret dX31_ship_242 rfl rfl rfl
    · replace hf := (if_neg (show ¬ (x1 ≤ l6) from c3)).symm.trans hf
      refine w_aload_n dX31_ship_179 rfl rfl ?_
      refine w_aload_n dX31_ship_180 rfl rfl ?_
      obtain ⟨x12, b13, hf⟩ := Option.bind_eq_some_iff.mp hf
      refine GX31_75 b13 dX31_ship_181 rfl ?_
      refine w_aload_n dX31_ship_184 rfl rfl ?_
      obtain ⟨a14, b15, hf⟩ := Option.bind_eq_some_iff.mp hf
      refine GX31_34 b15 dX31_ship_185 rfl ?_
      refine w_iload dX31_ship_188 rfl ?_
      obtain ⟨x16, b17, hf⟩ := Option.bind_eq_some_iff.mp hf
      refine x_rI b17 dX31_ship_190 ?_
      refine x_maxI dX31_ship_191 q3473 q2912 q478 q2913 (Nat.le_of_ble_eq_true rfl) ?_
      obtain ⟨h18, b19, hf⟩ := Option.bind_eq_some_iff.mp hf
      refine SX31_75 b19 dX31_ship_194 rfl ?_
      refine w_aload_n dX31_ship_197 rfl rfl ?_
      refine w_aload_n dX31_ship_198 rfl rfl ?_
      obtain ⟨x20, b21, hf⟩ := Option.bind_eq_some_iff.mp hf
      refine GX31_78 b21 dX31_ship_199 rfl ?_
      refine w_aload_n dX31_ship_202 rfl rfl ?_
      refine w_iload dX31_ship_203 rfl ?_
      obtain ⟨_, b22, hf⟩ := Option.bind_eq_some_iff.mp hf
      refine x_cnI hf (e_stV (Yc := YX31_behind) (ci := 30) (av := [.int l6]) (st := [.int x20, .ref l0]) dX31_ship_205 q3399 mX31_behind rfl (k_ok_some b22).1 (k_ok_some b22).2) mX31_behind.2.2.1 mX31_behind.2.2.2.2.1 (Nat.le_of_ble_eq_true rfl) (Nat.le_of_ble_eq_true rfl) (fun q hq => pX31_behind (by omega) hq) (fun q23 hf => ?_)
      refine x_maxI dX31_ship_208 q3473 q2912 q478 q2913 (Nat.le_of_ble_eq_true rfl) ?_
      obtain ⟨h24, b25, hf⟩ := Option.bind_eq_some_iff.mp hf
      refine SX31_78 b25 dX31_ship_211 rfl ?_
      refine w_iinc dX31_ship_214 (v := (l6 + (1 : Int32))) rfl rfl (by decide) (ls' := [some (.ref l0), none, none, none, some (.int l4), none, some (.int (l6 + (1 : Int32)))]) rfl ?_
      refine w_goto 170 dX31_ship_217 (by decide) ?_
      exact (ih _ _ _ _ _ hf).to ⟨rfl, rfl, rfl, trivial⟩
def fX31_ship_b137 (N : Nat) (l0 : Nat) (l1 : Int32) (l2 : Int32) (l3 : Int32) (l4 : Int32) (s0 : Int32) (h : eH) : Option (Int32 × eH) :=
  if s0 = 0 then
    fX31_ship_b148 N l0 l2 l3 s0 h
  else
    if ¬ l1 = 0 then
      fX31_ship_b170 N N l0 l4 (0 : Int32) h
    else
      fX31_ship_b148 N l0 l2 l3 s0 h
theorem pX31_ship_b137 {w : eW} {d : Nat} (hd : 6 ≤ d + 1) {N : Nat} {l0 : Nat} {l1 : Int32} {l2 : Int32} {l3 : Int32} {l4 : Int32} {s0 : Int32} {h : eH} {q} (hf : fX31_ship_b137 N l0 l1 l2 l3 l4 s0 h = some q) : wp w (d + 1) YX31_ship 137 [some (.ref l0), some (.int l1), some (.int l2), some (.int l3), some (.int l4), none, none] [.int s0] h (e_is (e_rn c_I q)) := by
  unfold fX31_ship_b137 at hf
  refine w_istore dX31_ship_137 (by decide) (ls' := [some (.ref l0), some (.int l1), some (.int l2), some (.int l3), some (.int l4), some (.int s0), none]) rfl ?_
  refine w_iload dX31_ship_139 rfl ?_
  refine w_if_eq 148 dX31_ship_141 (by decide) (fun c1 => ?_) (fun c1 => ?_)
  · replace hf := (if_pos (show s0 = 0 from c1)).symm.trans hf
    exact (pX31_ship_b148 hd hf).to ⟨rfl, rfl, rfl, rfl, trivial⟩
  · replace hf := (if_neg (show ¬ (s0 = 0) from c1)).symm.trans hf
    refine w_iload_n dX31_ship_144 rfl rfl ?_
    refine w_if_ne 167 dX31_ship_145 (by decide) (fun c2 => ?_) (fun c2 => ?_)
    · replace hf := (if_pos (show ¬ l1 = 0 from c2)).symm.trans hf
      refine w_iconst dX31_ship_167 (v := 0) (by decide) ?_
      refine w_istore dX31_ship_168 (by decide) (ls' := [some (.ref l0), some (.int l1), some (.int l2), some (.int l3), some (.int l4), some (.int s0), some (.int (0 : Int32))]) rfl ?_
      exact (pX31_ship_b170 hd N _ _ _ _ _ hf).to ⟨rfl, rfl, rfl, trivial⟩
    · replace hf := (if_neg (show ¬ (¬ l1 = 0) from (fun z => z c2))).symm.trans hf
      exact (pX31_ship_b148 hd hf).to ⟨rfl, rfl, rfl, rfl, trivial⟩
def fX31_ship_b46 (N : Nat) : Nat → Nat → Int32 → Int32 → Int32 → Int32 → Int32 → eH → Option (Int32 × eH)
  | 0, _, _, _, _, _, _, _ => none
  | n + 1, l0, l1, l2, l3, l4, l5, h =>
    if (10 : Int32) ≤ l5 then
      (g_A 30 h l0 1).bind fun a2 =>
      (g_I 30 h l0 14).bind fun x4 =>
      (k_ok 31 h a2).bind fun _ =>
      (fX32_number N a2 x4 (4 : Int32) h).bind fun q7 =>
      (g_A 30 q7.2 l0 1).bind fun a8 =>
      (k_ok 31 q7.2 a8).bind fun _ =>
      (fX32_add a8 (141 : Int32) q7.2).bind fun q11 =>
      (k_ok 30 q11.2 l0).bind fun _ =>
      (fX31_writeMarks N l0 q11.2).bind fun q13 =>
      (g_A 30 q13.2 l0 1).bind fun a14 =>
      (k_ok 31 q13.2 a14).bind fun _ =>
      (fX32_add a14 (142 : Int32) q13.2).bind fun q17 =>
      (g_A 30 q17.2 l0 1).bind fun a18 =>
      (k_ok 31 q17.2 a18).bind fun _ =>
      (fX32_add a18 (140 : Int32) q17.2).bind fun q21 =>
      (g_A 30 q21.2 l0 1).bind fun a22 =>
      (g_I 31 q21.2 a22 1).bind fun x24 =>
      if (200000 : Int32) < x24 then
        fX31_ship_b137 N l0 l1 l2 l3 l4 (0 : Int32) q21.2
      else
        fX31_ship_b137 N l0 l1 l2 l3 l4 (1 : Int32) q21.2
    else
      (g_A 30 h l0 1).bind fun a27 =>
      (g_A 30 h l0 2).bind fun a29 =>
      (r_I 100 h a29 l5).bind fun x31 =>
      (k_ok 31 h a27).bind fun _ =>
      (fX32_number N a27 x31 (4 : Int32) h).bind fun q34 =>
      fX31_ship_b46 N n l0 l1 l2 l3 l4 (l5 + (1 : Int32)) q34.2
theorem pX31_ship_b46 {w : eW} {d : Nat} (hd : 6 ≤ d + 1) {N : Nat} : ∀ (n : Nat) l0 l1 l2 l3 l4 l5 h q, fX31_ship_b46 N n l0 l1 l2 l3 l4 l5 h = some q → wp w (d + 1) YX31_ship 46 [some (.ref l0), some (.int l1), some (.int l2), some (.int l3), some (.int l4), some (.int l5), none] [] h (e_is (e_rn c_I q)) := by
  intro n
  induction n with
  | zero => intro l0 l1 l2 l3 l4 l5 h q hf; simp [fX31_ship_b46] at hf
  | succ n ih =>
    intro l0 l1 l2 l3 l4 l5 h q hf
    rw [fX31_ship_b46] at hf
    refine w_iload dX31_ship_46 rfl ?_
    refine w_bipush dX31_ship_48 (v := 10) (by decide) ?_
    refine w_icmp_ge 74 dX31_ship_50 (by decide) (fun c1 => ?_) (fun c1 => ?_)
    · replace hf := (if_pos (show (10 : Int32) ≤ l5 from c1)).symm.trans hf
      refine w_aload_n dX31_ship_74 rfl rfl ?_
      obtain ⟨a2, b3, hf⟩ := Option.bind_eq_some_iff.mp hf
      refine GX31_15 b3 dX31_ship_75 rfl ?_
      refine w_aload_n dX31_ship_78 rfl rfl ?_
      obtain ⟨x4, b5, hf⟩ := Option.bind_eq_some_iff.mp hf
      refine GX31_52 b5 dX31_ship_79 rfl ?_
      refine w_iconst dX31_ship_82 (v := 4) (by decide) ?_
      obtain ⟨_, b6, hf⟩ := Option.bind_eq_some_iff.mp hf
      refine x_cnV hf (e_stV (Yc := YX32_number) (ci := 31) (av := [.int x4, .int (4 : Int32)]) (st := []) dX31_ship_83 q3422 mX32_number rfl (k_ok_some b6).1 (k_ok_some b6).2) mX32_number.2.2.1 mX32_number.2.2.2.2.1 (Nat.le_of_ble_eq_true rfl) (Nat.le_of_ble_eq_true rfl) (fun q hq => pX32_number (by omega) hq) (fun q7 hf => ?_)
      refine w_aload_n dX31_ship_86 rfl rfl ?_
      obtain ⟨a8, b9, hf⟩ := Option.bind_eq_some_iff.mp hf
      refine GX31_15 b9 dX31_ship_87 rfl ?_
      refine w_sipush dX31_ship_90 (v := 141) (by decide) ?_
      obtain ⟨_, b10, hf⟩ := Option.bind_eq_some_iff.mp hf
      refine x_cnV hf (e_stV (Yc := YX32_add) (ci := 31) (av := [.int (141 : Int32)]) (st := []) dX31_ship_93 q3417 mX32_add rfl (k_ok_some b10).1 (k_ok_some b10).2) mX32_add.2.2.1 mX32_add.2.2.2.2.1 (Nat.le_of_ble_eq_true rfl) (Nat.le_of_ble_eq_true rfl) (fun q hq => pX32_add (by omega) hq) (fun q11 hf => ?_)
      refine w_aload_n dX31_ship_96 rfl rfl ?_
      obtain ⟨_, b12, hf⟩ := Option.bind_eq_some_iff.mp hf
      refine x_cnV hf (e_stV (Yc := YX31_writeMarks) (ci := 30) (av := []) (st := []) dX31_ship_97 q3428 mX31_writeMarks rfl (k_ok_some b12).1 (k_ok_some b12).2) mX31_writeMarks.2.2.1 mX31_writeMarks.2.2.2.2.1 (Nat.le_of_ble_eq_true rfl) (Nat.le_of_ble_eq_true rfl) (fun q hq => pX31_writeMarks (by omega) hq) (fun q13 hf => ?_)
      refine w_aload_n dX31_ship_100 rfl rfl ?_
      obtain ⟨a14, b15, hf⟩ := Option.bind_eq_some_iff.mp hf
      refine GX31_15 b15 dX31_ship_101 rfl ?_
      refine w_sipush dX31_ship_104 (v := 142) (by decide) ?_
      obtain ⟨_, b16, hf⟩ := Option.bind_eq_some_iff.mp hf
      refine x_cnV hf (e_stV (Yc := YX32_add) (ci := 31) (av := [.int (142 : Int32)]) (st := []) dX31_ship_107 q3417 mX32_add rfl (k_ok_some b16).1 (k_ok_some b16).2) mX32_add.2.2.1 mX32_add.2.2.2.2.1 (Nat.le_of_ble_eq_true rfl) (Nat.le_of_ble_eq_true rfl) (fun q hq => pX32_add (by omega) hq) (fun q17 hf => ?_)
      refine w_aload_n dX31_ship_110 rfl rfl ?_
      obtain ⟨a18, b19, hf⟩ := Option.bind_eq_some_iff.mp hf
      refine GX31_15 b19 dX31_ship_111 rfl ?_
      refine w_sipush dX31_ship_114 (v := 140) (by decide) ?_
      obtain ⟨_, b20, hf⟩ := Option.bind_eq_some_iff.mp hf
      refine x_cnV hf (e_stV (Yc := YX32_add) (ci := 31) (av := [.int (140 : Int32)]) (st := []) dX31_ship_117 q3417 mX32_add rfl (k_ok_some b20).1 (k_ok_some b20).2) mX32_add.2.2.1 mX32_add.2.2.2.2.1 (Nat.le_of_ble_eq_true rfl) (Nat.le_of_ble_eq_true rfl) (fun q hq => pX32_add (by omega) hq) (fun q21 hf => ?_)
      refine w_aload_n dX31_ship_120 rfl rfl ?_
      obtain ⟨a22, b23, hf⟩ := Option.bind_eq_some_iff.mp hf
      refine GX31_15 b23 dX31_ship_121 rfl ?_
      obtain ⟨x24, b25, hf⟩ := Option.bind_eq_some_iff.mp hf
      refine GX31_66 b25 dX31_ship_124 rfl ?_
      refine w_ldc dX31_ship_127 q3468 ?_
      refine w_icmp_gt 136 dX31_ship_129 (by decide) (fun c26 => ?_) (fun c26 => ?_)
      · replace hf := (if_pos (show (200000 : Int32) < x24 from c26)).symm.trans hf
        refine w_iconst dX31_ship_136 (v := 0) (by decide) ?_
        exact (pX31_ship_b137 hd hf).to ⟨rfl, rfl, rfl, rfl, rfl, trivial⟩
      · replace hf := (if_neg (show ¬ ((200000 : Int32) < x24) from c26)).symm.trans hf
        refine w_iconst dX31_ship_132 (v := 1) (by decide) ?_
        refine w_goto 137 dX31_ship_133 (by decide) ?_
        exact (pX31_ship_b137 hd hf).to ⟨rfl, rfl, rfl, rfl, rfl, trivial⟩
    · replace hf := (if_neg (show ¬ ((10 : Int32) ≤ l5) from c1)).symm.trans hf
      refine w_aload_n dX31_ship_53 rfl rfl ?_
      obtain ⟨a27, b28, hf⟩ := Option.bind_eq_some_iff.mp hf
      refine GX31_15 b28 dX31_ship_54 rfl ?_
      refine w_aload_n dX31_ship_57 rfl rfl ?_
      obtain ⟨a29, b30, hf⟩ := Option.bind_eq_some_iff.mp hf
      refine GX31_21 b30 dX31_ship_58 rfl ?_
      refine w_iload dX31_ship_61 rfl ?_
      obtain ⟨x31, b32, hf⟩ := Option.bind_eq_some_iff.mp hf
      refine x_rI b32 dX31_ship_63 ?_
      refine w_iconst dX31_ship_64 (v := 4) (by decide) ?_
      obtain ⟨_, b33, hf⟩ := Option.bind_eq_some_iff.mp hf
      refine x_cnV hf (e_stV (Yc := YX32_number) (ci := 31) (av := [.int x31, .int (4 : Int32)]) (st := []) dX31_ship_65 q3422 mX32_number rfl (k_ok_some b33).1 (k_ok_some b33).2) mX32_number.2.2.1 mX32_number.2.2.2.2.1 (Nat.le_of_ble_eq_true rfl) (Nat.le_of_ble_eq_true rfl) (fun q hq => pX32_number (by omega) hq) (fun q34 hf => ?_)
      refine w_iinc dX31_ship_68 (v := (l5 + (1 : Int32))) rfl rfl (by decide) (ls' := [some (.ref l0), some (.int l1), some (.int l2), some (.int l3), some (.int l4), some (.int (l5 + (1 : Int32))), none]) rfl ?_
      refine w_goto 46 dX31_ship_71 (by decide) ?_
      exact (ih _ _ _ _ _ _ _ _ hf).to ⟨rfl, rfl, rfl, rfl, rfl, rfl, trivial⟩
def fX31_ship (N : Nat) (this : Nat) (p0 : Int32) (h : eH) : Option (Int32 × eH) :=
  (k_ok 30 h this).bind fun _ =>
  (fX31_gather N this h).bind fun q2 =>
  (g_A 30 q2.2 this 1).bind fun a3 =>
  (g_I 31 q2.2 a3 1).bind fun x5 =>
  (g_A 30 q2.2 this 0).bind fun a7 =>
  (g_I 4 q2.2 a7 6).bind fun x9 =>
  (k_ok 30 q2.2 this).bind fun _ =>
  (fX31_open N this q2.2).bind fun q12 =>
  (g_A 30 q12.2 this 1).bind fun a13 =>
  (g_I 31 q12.2 a13 1).bind fun x15 =>
  (g_A 30 q12.2 this 1).bind fun a17 =>
  (k_ok 31 q12.2 a17).bind fun _ =>
  (fX32_add a17 (139 : Int32) q12.2).bind fun q20 =>
  fX31_ship_b46 N N this p0 x5 x9 x15 (0 : Int32) q20.2
theorem pX31_ship {w : eW} {d : Nat} (hd : 6 ≤ d) {N : Nat} {this : Nat} {p0 : Int32} {h : eH} {q} (hf : fX31_ship N this p0 h = some q) : wm w d YX31_ship [.ref this, .int p0] h (e_is (e_rn c_I q)) := by
  obtain ⟨d, rfl⟩ : ∃ e, d = e + 1 := ⟨d - 1, by omega⟩
  show wp w (d + 1) YX31_ship 0 [some (.ref this), some (.int p0), none, none, none, none, none] [] h _
  unfold fX31_ship at hf
  refine w_aload_n dX31_ship_0 rfl rfl ?_
  obtain ⟨_, b1, hf⟩ := Option.bind_eq_some_iff.mp hf
  refine x_cnV hf (e_stV (Yc := YX31_gather) (ci := 30) (av := []) (st := []) dX31_ship_1 q3387 mX31_gather rfl (k_ok_some b1).1 (k_ok_some b1).2) mX31_gather.2.2.1 mX31_gather.2.2.2.2.1 (Nat.le_of_ble_eq_true rfl) (Nat.le_of_ble_eq_true rfl) (fun q hq => pX31_gather (by omega) hq) (fun q2 hf => ?_)
  refine w_aload_n dX31_ship_4 rfl rfl ?_
  obtain ⟨a3, b4, hf⟩ := Option.bind_eq_some_iff.mp hf
  refine GX31_15 b4 dX31_ship_5 rfl ?_
  obtain ⟨x5, b6, hf⟩ := Option.bind_eq_some_iff.mp hf
  refine GX31_66 b6 dX31_ship_8 rfl ?_
  refine w_istore_n dX31_ship_11 rfl (by decide) (ls' := [some (.ref this), some (.int p0), some (.int x5), none, none, none, none]) rfl ?_
  refine w_aload_n dX31_ship_12 rfl rfl ?_
  obtain ⟨a7, b8, hf⟩ := Option.bind_eq_some_iff.mp hf
  refine GX31_56 b8 dX31_ship_13 rfl ?_
  obtain ⟨x9, b10, hf⟩ := Option.bind_eq_some_iff.mp hf
  refine GX31_131 b10 dX31_ship_16 rfl ?_
  refine w_istore_n dX31_ship_19 rfl (by decide) (ls' := [some (.ref this), some (.int p0), some (.int x5), some (.int x9), none, none, none]) rfl ?_
  refine w_aload_n dX31_ship_20 rfl rfl ?_
  obtain ⟨_, b11, hf⟩ := Option.bind_eq_some_iff.mp hf
  refine x_cnV hf (e_stV (Yc := YX31_open) (ci := 30) (av := []) (st := []) dX31_ship_21 q3413 mX31_open rfl (k_ok_some b11).1 (k_ok_some b11).2) mX31_open.2.2.1 mX31_open.2.2.2.2.1 (Nat.le_of_ble_eq_true rfl) (Nat.le_of_ble_eq_true rfl) (fun q hq => pX31_open (by omega) hq) (fun q12 hf => ?_)
  refine w_aload_n dX31_ship_24 rfl rfl ?_
  obtain ⟨a13, b14, hf⟩ := Option.bind_eq_some_iff.mp hf
  refine GX31_15 b14 dX31_ship_25 rfl ?_
  obtain ⟨x15, b16, hf⟩ := Option.bind_eq_some_iff.mp hf
  refine GX31_66 b16 dX31_ship_28 rfl ?_
  refine w_istore dX31_ship_31 (by decide) (ls' := [some (.ref this), some (.int p0), some (.int x5), some (.int x9), some (.int x15), none, none]) rfl ?_
  refine w_aload_n dX31_ship_33 rfl rfl ?_
  obtain ⟨a17, b18, hf⟩ := Option.bind_eq_some_iff.mp hf
  refine GX31_15 b18 dX31_ship_34 rfl ?_
  refine w_sipush dX31_ship_37 (v := 139) (by decide) ?_
  obtain ⟨_, b19, hf⟩ := Option.bind_eq_some_iff.mp hf
  refine x_cnV hf (e_stV (Yc := YX32_add) (ci := 31) (av := [.int (139 : Int32)]) (st := []) dX31_ship_40 q3417 mX32_add rfl (k_ok_some b19).1 (k_ok_some b19).2) mX32_add.2.2.1 mX32_add.2.2.2.2.1 (Nat.le_of_ble_eq_true rfl) (Nat.le_of_ble_eq_true rfl) (fun q hq => pX32_add (by omega) hq) (fun q20 hf => ?_)
  refine w_iconst dX31_ship_43 (v := 0) (by decide) ?_
  refine w_istore dX31_ship_44 (by decide) (ls' := [some (.ref this), some (.int p0), some (.int x5), some (.int x9), some (.int x15), some (.int (0 : Int32)), none]) rfl ?_
  exact (pX31_ship_b46 hd N _ _ _ _ _ _ _ _ hf).to ⟨rfl, rfl, rfl, rfl, rfl, rfl, trivial⟩
abbrev cX9_set : ByteArray := prog_28_method_9_code
def yX9_set : MethodName := ⟨RX9, "set", "(IIZ)V"⟩
def YX9_set : eY := (yX9_set, cX9_set, 4, none, [])
theorem mX9_set : e_mv YX9_set RX9 3 := ⟨q3475, q3476, q3477, by decide, by decide +kernel, (e_sig (by decide +kernel))⟩
theorem dX9_set_0 : decode cX9_set 0 = .ok (.iload_n 3, 1) := dc_29 (by decide +kernel)
theorem dX9_set_1 : decode cX9_set 1 = .ok (.ifCond .ne 48, 3) := dc_154 (a := 0) (b := 48) (v := 48) (by decide +kernel)
theorem dX9_set_4 : decode cX9_set 4 = .ok (.aload_n 0, 1) := dc_42 (by decide +kernel)
theorem dX9_set_5 : decode cX9_set 5 = .ok (.getfield 24, 3) := dc_180 (a := 0) (b := 24) (n := 24) (by decide +kernel)
theorem dX9_set_8 : decode cX9_set 8 = .ok (.iload_n 1, 1) := dc_27 (by decide +kernel)
theorem dX9_set_9 : decode cX9_set 9 = .ok (.iaload, 1) := dc_46 (by decide +kernel)
theorem dX9_set_10 : decode cX9_set 10 = .ok (.aload_n 0, 1) := dc_42 (by decide +kernel)
theorem dX9_set_11 : decode cX9_set 11 = .ok (.getfield 58, 3) := dc_180 (a := 0) (b := 58) (n := 58) (by decide +kernel)
theorem dX9_set_14 : decode cX9_set 14 = .ok (.if_icmp .ge 35, 3) := dc_162 (a := 0) (b := 35) (v := 35) (by decide +kernel)
theorem dX9_set_17 : decode cX9_set 17 = .ok (.aload_n 0, 1) := dc_42 (by decide +kernel)
theorem dX9_set_18 : decode cX9_set 18 = .ok (.getfield 30, 3) := dc_180 (a := 0) (b := 30) (n := 30) (by decide +kernel)
theorem dX9_set_21 : decode cX9_set 21 = .ok (.iload_n 1, 1) := dc_27 (by decide +kernel)
theorem dX9_set_22 : decode cX9_set 22 = .ok (.aload_n 0, 1) := dc_42 (by decide +kernel)
theorem dX9_set_23 : decode cX9_set 23 = .ok (.iconst (-1), 1) := dc_2 (by decide +kernel)
theorem dX9_set_24 : decode cX9_set 24 = .ok (.iload_n 1, 1) := dc_27 (by decide +kernel)
theorem dX9_set_25 : decode cX9_set 25 = .ok (.isub, 1) := dc_100 (by decide +kernel)
theorem dX9_set_26 : decode cX9_set 26 = .ok (.aload_n 0, 1) := dc_42 (by decide +kernel)
theorem dX9_set_27 : decode cX9_set 27 = .ok (.getfield 30, 3) := dc_180 (a := 0) (b := 30) (n := 30) (by decide +kernel)
theorem dX9_set_30 : decode cX9_set 30 = .ok (.iload_n 1, 1) := dc_27 (by decide +kernel)
theorem dX9_set_31 : decode cX9_set 31 = .ok (.iaload, 1) := dc_46 (by decide +kernel)
theorem dX9_set_32 : decode cX9_set 32 = .ok (.iconst 0, 1) := dc_3 (by decide +kernel)
theorem dX9_set_33 : decode cX9_set 33 = .ok (.aload_n 0, 1) := dc_42 (by decide +kernel)
theorem dX9_set_34 : decode cX9_set 34 = .ok (.getfield 21, 3) := dc_180 (a := 0) (b := 21) (n := 21) (by decide +kernel)
theorem dX9_set_37 : decode cX9_set 37 = .ok (.iload_n 1, 1) := dc_27 (by decide +kernel)
theorem dX9_set_38 : decode cX9_set 38 = .ok (.iaload, 1) := dc_46 (by decide +kernel)
theorem dX9_set_39 : decode cX9_set 39 = .ok (.aload_n 0, 1) := dc_42 (by decide +kernel)
theorem dX9_set_40 : decode cX9_set 40 = .ok (.getfield 24, 3) := dc_180 (a := 0) (b := 24) (n := 24) (by decide +kernel)
theorem dX9_set_43 : decode cX9_set 43 = .ok (.iload_n 1, 1) := dc_27 (by decide +kernel)
theorem dX9_set_44 : decode cX9_set 44 = .ok (.iaload, 1) := dc_46 (by decide +kernel)
theorem dX9_set_45 : decode cX9_set 45 = .ok (.invokevirtual 80, 3) := dc_182 (a := 0) (b := 80) (n := 80) (by decide +kernel)
theorem dX9_set_48 : decode cX9_set 48 = .ok (.iastore, 1) := dc_79 (by decide +kernel)
theorem dX9_set_49 : decode cX9_set 49 = .ok (.aload_n 0, 1) := dc_42 (by decide +kernel)
theorem dX9_set_50 : decode cX9_set 50 = .ok (.getfield 21, 3) := dc_180 (a := 0) (b := 21) (n := 21) (by decide +kernel)
theorem dX9_set_53 : decode cX9_set 53 = .ok (.iload_n 1, 1) := dc_27 (by decide +kernel)
theorem dX9_set_54 : decode cX9_set 54 = .ok (.iload_n 2, 1) := dc_28 (by decide +kernel)
theorem dX9_set_55 : decode cX9_set 55 = .ok (.iastore, 1) := dc_79 (by decide +kernel)
theorem dX9_set_56 : decode cX9_set 56 = .ok (.aload_n 0, 1) := dc_42 (by decide +kernel)
theorem dX9_set_57 : decode cX9_set 57 = .ok (.getfield 24, 3) := dc_180 (a := 0) (b := 24) (n := 24) (by decide +kernel)
theorem dX9_set_60 : decode cX9_set 60 = .ok (.iload_n 1, 1) := dc_27 (by decide +kernel)
theorem dX9_set_61 : decode cX9_set 61 = .ok (.iload_n 3, 1) := dc_29 (by decide +kernel)
theorem dX9_set_62 : decode cX9_set 62 = .ok (.ifCond .eq 7, 3) := dc_153 (a := 0) (b := 7) (v := 7) (by decide +kernel)
theorem dX9_set_65 : decode cX9_set 65 = .ok (.iconst 0, 1) := dc_3 (by decide +kernel)
theorem dX9_set_66 : decode cX9_set 66 = .ok (.goto 7, 3) := dc_167 (a := 0) (b := 7) (v := 7) (by decide +kernel)
theorem dX9_set_69 : decode cX9_set 69 = .ok (.aload_n 0, 1) := dc_42 (by decide +kernel)
theorem dX9_set_70 : decode cX9_set 70 = .ok (.getfield 58, 3) := dc_180 (a := 0) (b := 58) (n := 58) (by decide +kernel)
theorem dX9_set_73 : decode cX9_set 73 = .ok (.iastore, 1) := dc_79 (by decide +kernel)
theorem dX9_set_74 : decode cX9_set 74 = .ok (.return_, 1) := dc_177 (by decide +kernel)
theorem GX9_30 {w : eW} {d : Nat} {Y : eY} {pc : Nat} {ls : eL} {st : List Value} {h : eH} {Q : eO → eH → Prop} {a : Nat} {x : Nat} (hf : g_A 8 h a 7 = some x) (hd : decode Y.2.1 pc = .ok (.getfield 30, 3)) (hY : Y.1.cls = RX9) (kk : wp w d Y (pc + 3) ls (.ref x :: st) h Q) : wp w d Y pc ls (.ref a :: st) h Q := x_gA (ci := 8) (k := 7) hf hd rfl (by decide) (by rw [hY]; exact q662) kk
def fX9_set_b73 (N : Nat) (s0 : Nat) (s1 : Int32) (s2 : Int32) (h : eH) : Option (Unit × eH) :=
  (q_V 100 h s0 s1 (.int s2)).bind fun h1 =>
  some ((), h1)
theorem pX9_set_b73 {w : eW} {d : Nat} (hd : 3 ≤ d + 1) {N : Nat} {s0 : Nat} {s1 : Int32} {s2 : Int32} {h : eH} {q} (hf : fX9_set_b73 N s0 s1 s2 h = some q) : wp w (d + 1) YX9_set 73 [none, none, none, none] [.int s2, .int s1, .ref s0] h (e_is (e_rn c_V q)) := by
  unfold fX9_set_b73 at hf
  obtain ⟨h1, b2, hf⟩ := Option.bind_eq_some_iff.mp hf
  refine x_qI b2 dX9_set_73 ?_
  cases hf
  exact w_vret dX9_set_74 rfl rfl
def fX9_set_b49 (N : Nat) (l0 : Nat) (l1 : Int32) (l2 : Int32) (l3 : Int32) (h : eH) : Option (Unit × eH) :=
  (g_A 8 h l0 3).bind fun a1 =>
  (q_V 100 h a1 l1 (.int l2)).bind fun h3 =>
  (g_A 8 h3 l0 4).bind fun a5 =>
  if l3 = 0 then
    (g_I 8 h3 l0 11).bind fun x8 =>
    fX9_set_b73 N a5 l1 x8 h3
  else
    fX9_set_b73 N a5 l1 (0 : Int32) h3
theorem pX9_set_b49 {w : eW} {d : Nat} (hd : 3 ≤ d + 1) {N : Nat} {l0 : Nat} {l1 : Int32} {l2 : Int32} {l3 : Int32} {h : eH} {q} (hf : fX9_set_b49 N l0 l1 l2 l3 h = some q) : wp w (d + 1) YX9_set 49 [some (.ref l0), some (.int l1), some (.int l2), some (.int l3)] [] h (e_is (e_rn c_V q)) := by
  unfold fX9_set_b49 at hf
  refine w_aload_n dX9_set_49 rfl rfl ?_
  obtain ⟨a1, b2, hf⟩ := Option.bind_eq_some_iff.mp hf
  refine GX9_21 b2 dX9_set_50 rfl ?_
  refine w_iload_n dX9_set_53 rfl rfl ?_
  refine w_iload_n dX9_set_54 rfl rfl ?_
  obtain ⟨h3, b4, hf⟩ := Option.bind_eq_some_iff.mp hf
  refine x_qI b4 dX9_set_55 ?_
  refine w_aload_n dX9_set_56 rfl rfl ?_
  obtain ⟨a5, b6, hf⟩ := Option.bind_eq_some_iff.mp hf
  refine GX9_24 b6 dX9_set_57 rfl ?_
  refine w_iload_n dX9_set_60 rfl rfl ?_
  refine w_iload_n dX9_set_61 rfl rfl ?_
  refine w_if_eq 69 dX9_set_62 (by decide) (fun c7 => ?_) (fun c7 => ?_)
  · replace hf := (if_pos (show l3 = 0 from c7)).symm.trans hf
    refine w_aload_n dX9_set_69 rfl rfl ?_
    obtain ⟨x8, b9, hf⟩ := Option.bind_eq_some_iff.mp hf
    refine GX9_58 b9 dX9_set_70 rfl ?_
    exact (pX9_set_b73 hd hf).to trivial
  · replace hf := (if_neg (show ¬ (l3 = 0) from c7)).symm.trans hf
    refine w_iconst dX9_set_65 (v := 0) (by decide) ?_
    refine w_goto 73 dX9_set_66 (by decide) ?_
    exact (pX9_set_b73 hd hf).to trivial
def fX9_set (N : Nat) (this : Nat) (p0 : Int32) (p1 : Int32) (p2 : Int32) (h : eH) : Option (Unit × eH) :=
  if ¬ p2 = 0 then
    fX9_set_b49 N this p0 p1 p2 h
  else
    (g_A 8 h this 4).bind fun a2 =>
    (r_I 100 h a2 p0).bind fun x4 =>
    (g_I 8 h this 11).bind fun x6 =>
    if x6 ≤ x4 then
      fX9_set_b49 N this p0 p1 p2 h
    else
      (g_A 8 h this 7).bind fun a9 =>
      (g_A 8 h this 7).bind fun a11 =>
      (r_I 100 h a11 p0).bind fun x13 =>
      (g_A 8 h this 3).bind fun a15 =>
      (r_I 100 h a15 p0).bind fun x17 =>
      (g_A 8 h this 4).bind fun a19 =>
      (r_I 100 h a19 p0).bind fun x21 =>
      (k_ok 8 h this).bind fun _ =>
      (fX9_save N this ((-1 : Int32) - p0) x13 (0 : Int32) x17 x21 h).bind fun q24 =>
      (q_V 100 q24.2 a9 p0 (.int q24.1)).bind fun h25 =>
      fX9_set_b49 N this p0 p1 p2 h25
theorem pX9_set {w : eW} {d : Nat} (hd : 3 ≤ d) {N : Nat} {this : Nat} {p0 : Int32} {p1 : Int32} {p2 : Int32} {h : eH} {q} (hf : fX9_set N this p0 p1 p2 h = some q) : wm w d YX9_set [.ref this, .int p0, .int p1, .int p2] h (e_is (e_rn c_V q)) := by
  obtain ⟨d, rfl⟩ : ∃ e, d = e + 1 := ⟨d - 1, by omega⟩
  show wp w (d + 1) YX9_set 0 [some (.ref this), some (.int p0), some (.int p1), some (.int p2)] [] h _
  unfold fX9_set at hf
  refine w_iload_n dX9_set_0 rfl rfl ?_
  refine w_if_ne 49 dX9_set_1 (by decide) (fun c1 => ?_) (fun c1 => ?_)
  · replace hf := (if_pos (show ¬ p2 = 0 from c1)).symm.trans hf
    exact (pX9_set_b49 hd hf).to ⟨rfl, rfl, rfl, rfl, trivial⟩
  · replace hf := (if_neg (show ¬ (¬ p2 = 0) from (fun z => z c1))).symm.trans hf
    refine w_aload_n dX9_set_4 rfl rfl ?_
    obtain ⟨a2, b3, hf⟩ := Option.bind_eq_some_iff.mp hf
    refine GX9_24 b3 dX9_set_5 rfl ?_
    refine w_iload_n dX9_set_8 rfl rfl ?_
    obtain ⟨x4, b5, hf⟩ := Option.bind_eq_some_iff.mp hf
    refine x_rI b5 dX9_set_9 ?_
    refine w_aload_n dX9_set_10 rfl rfl ?_
    obtain ⟨x6, b7, hf⟩ := Option.bind_eq_some_iff.mp hf
    refine GX9_58 b7 dX9_set_11 rfl ?_
    refine w_icmp_ge 49 dX9_set_14 (by decide) (fun c8 => ?_) (fun c8 => ?_)
    · replace hf := (if_pos (show x6 ≤ x4 from c8)).symm.trans hf
      exact (pX9_set_b49 hd hf).to ⟨rfl, rfl, rfl, rfl, trivial⟩
    · replace hf := (if_neg (show ¬ (x6 ≤ x4) from c8)).symm.trans hf
      refine w_aload_n dX9_set_17 rfl rfl ?_
      obtain ⟨a9, b10, hf⟩ := Option.bind_eq_some_iff.mp hf
      refine GX9_30 b10 dX9_set_18 rfl ?_
      refine w_iload_n dX9_set_21 rfl rfl ?_
      refine w_aload_n dX9_set_22 rfl rfl ?_
      refine w_iconst dX9_set_23 (v := -1) (by decide) ?_
      refine w_iload_n dX9_set_24 rfl rfl ?_
      refine w_isub dX9_set_25 ?_
      refine w_aload_n dX9_set_26 rfl rfl ?_
      obtain ⟨a11, b12, hf⟩ := Option.bind_eq_some_iff.mp hf
      refine GX9_30 b12 dX9_set_27 rfl ?_
      refine w_iload_n dX9_set_30 rfl rfl ?_
      obtain ⟨x13, b14, hf⟩ := Option.bind_eq_some_iff.mp hf
      refine x_rI b14 dX9_set_31 ?_
      refine w_iconst dX9_set_32 (v := 0) (by decide) ?_
      refine w_aload_n dX9_set_33 rfl rfl ?_
      obtain ⟨a15, b16, hf⟩ := Option.bind_eq_some_iff.mp hf
      refine GX9_21 b16 dX9_set_34 rfl ?_
      refine w_iload_n dX9_set_37 rfl rfl ?_
      obtain ⟨x17, b18, hf⟩ := Option.bind_eq_some_iff.mp hf
      refine x_rI b18 dX9_set_38 ?_
      refine w_aload_n dX9_set_39 rfl rfl ?_
      obtain ⟨a19, b20, hf⟩ := Option.bind_eq_some_iff.mp hf
      refine GX9_24 b20 dX9_set_40 rfl ?_
      refine w_iload_n dX9_set_43 rfl rfl ?_
      obtain ⟨x21, b22, hf⟩ := Option.bind_eq_some_iff.mp hf
      refine x_rI b22 dX9_set_44 ?_
      obtain ⟨_, b23, hf⟩ := Option.bind_eq_some_iff.mp hf
      refine x_cnI hf (e_stV (Yc := YX9_save) (ci := 8) (av := [.int ((-1 : Int32) - p0), .int x13, .int (0 : Int32), .int x17, .int x21]) (st := [.int p0, .ref a9]) dX9_set_45 q2015 mX9_save rfl (k_ok_some b23).1 (k_ok_some b23).2) mX9_save.2.2.1 mX9_save.2.2.2.2.1 (Nat.le_of_ble_eq_true rfl) (Nat.le_of_ble_eq_true rfl) (fun q hq => pX9_save (by omega) hq) (fun q24 hf => ?_)
      obtain ⟨h25, b26, hf⟩ := Option.bind_eq_some_iff.mp hf
      refine x_qI b26 dX9_set_48 ?_
      exact (pX9_set_b49 hd hf).to ⟨rfl, rfl, rfl, rfl, trivial⟩
abbrev cX3_ship : ByteArray := prog_26_method_43_code
def yX3_ship : MethodName := ⟨RX3, "ship", "(LTypeHouse$Page;)V"⟩
def YX3_ship : eY := (yX3_ship, cX3_ship, 3, none, [])
theorem mX3_ship : e_mv YX3_ship RX3 1 := ⟨q3296, qs126, q3297, by decide, by decide +kernel, (e_sig (by decide +kernel))⟩
theorem dX3_ship_0 : decode cX3_ship 0 = .ok (.aload_n 0, 1) := dc_42 (by decide +kernel)
theorem dX3_ship_1 : decode cX3_ship 1 = .ok (.aload_n 1, 1) := dc_43 (by decide +kernel)
theorem dX3_ship_2 : decode cX3_ship 2 = .ok (.invokevirtual 660, 3) := dc_182 (a := 2) (b := 148) (n := 660) (by decide +kernel)
theorem dX3_ship_5 : decode cX3_ship 5 = .ok (.aload_n 0, 1) := dc_42 (by decide +kernel)
theorem dX3_ship_6 : decode cX3_ship 6 = .ok (.aload_n 1, 1) := dc_43 (by decide +kernel)
theorem dX3_ship_7 : decode cX3_ship 7 = .ok (.invokevirtual 663, 3) := dc_182 (a := 2) (b := 151) (n := 663) (by decide +kernel)
theorem dX3_ship_10 : decode cX3_ship 10 = .ok (.aload_n 0, 1) := dc_42 (by decide +kernel)
theorem dX3_ship_11 : decode cX3_ship 11 = .ok (.getfield 119, 3) := dc_180 (a := 0) (b := 119) (n := 119) (by decide +kernel)
theorem dX3_ship_14 : decode cX3_ship 14 = .ok (.iconst 0, 1) := dc_3 (by decide +kernel)
theorem dX3_ship_15 : decode cX3_ship 15 = .ok (.putfield 665, 3) := dc_181 (a := 2) (b := 153) (n := 665) (by decide +kernel)
theorem dX3_ship_18 : decode cX3_ship 18 = .ok (.aload_n 0, 1) := dc_42 (by decide +kernel)
theorem dX3_ship_19 : decode cX3_ship 19 = .ok (.invokevirtual 667, 3) := dc_182 (a := 2) (b := 155) (n := 667) (by decide +kernel)
theorem dX3_ship_22 : decode cX3_ship 22 = .ok (.iconst 0, 1) := dc_3 (by decide +kernel)
theorem dX3_ship_23 : decode cX3_ship 23 = .ok (.istore_n 2, 1) := dc_61 (by decide +kernel)
theorem dX3_ship_24 : decode cX3_ship 24 = .ok (.iload_n 2, 1) := dc_28 (by decide +kernel)
theorem dX3_ship_25 : decode cX3_ship 25 = .ok (.bipush 10, 2) := dc_16 (a := 10) (v := 10) (by decide +kernel)
theorem dX3_ship_27 : decode cX3_ship 27 = .ok (.if_icmp .ge 27, 3) := dc_162 (a := 0) (b := 27) (v := 27) (by decide +kernel)
theorem dX3_ship_30 : decode cX3_ship 30 = .ok (.aload_n 0, 1) := dc_42 (by decide +kernel)
theorem dX3_ship_31 : decode cX3_ship 31 = .ok (.getfield 119, 3) := dc_180 (a := 0) (b := 119) (n := 119) (by decide +kernel)
theorem dX3_ship_34 : decode cX3_ship 34 = .ok (.getfield 670, 3) := dc_180 (a := 2) (b := 158) (n := 670) (by decide +kernel)
theorem dX3_ship_37 : decode cX3_ship 37 = .ok (.iload_n 2, 1) := dc_28 (by decide +kernel)
theorem dX3_ship_38 : decode cX3_ship 38 = .ok (.aload_n 0, 1) := dc_42 (by decide +kernel)
theorem dX3_ship_39 : decode cX3_ship 39 = .ok (.getfield 53, 3) := dc_180 (a := 0) (b := 53) (n := 53) (by decide +kernel)
theorem dX3_ship_42 : decode cX3_ship 42 = .ok (.getfield 311, 3) := dc_180 (a := 1) (b := 55) (n := 311) (by decide +kernel)
theorem dX3_ship_45 : decode cX3_ship 45 = .ok (.iload_n 2, 1) := dc_28 (by decide +kernel)
theorem dX3_ship_46 : decode cX3_ship 46 = .ok (.iaload, 1) := dc_46 (by decide +kernel)
theorem dX3_ship_47 : decode cX3_ship 47 = .ok (.iastore, 1) := dc_79 (by decide +kernel)
theorem dX3_ship_48 : decode cX3_ship 48 = .ok (.iinc 2 1, 3) := dc_132 (a := 2) (b := 1) (v := 1) (by decide +kernel)
theorem dX3_ship_51 : decode cX3_ship 51 = .ok (.goto (-27), 3) := dc_167 (a := 255) (b := 229) (v := -27) (by decide +kernel)
theorem dX3_ship_54 : decode cX3_ship 54 = .ok (.aload_n 0, 1) := dc_42 (by decide +kernel)
theorem dX3_ship_55 : decode cX3_ship 55 = .ok (.getfield 53, 3) := dc_180 (a := 0) (b := 53) (n := 53) (by decide +kernel)
theorem dX3_ship_58 : decode cX3_ship 58 = .ok (.getfield 311, 3) := dc_180 (a := 1) (b := 55) (n := 311) (by decide +kernel)
theorem dX3_ship_61 : decode cX3_ship 61 = .ok (.iconst 0, 1) := dc_3 (by decide +kernel)
theorem dX3_ship_62 : decode cX3_ship 62 = .ok (.iaload, 1) := dc_46 (by decide +kernel)
theorem dX3_ship_63 : decode cX3_ship 63 = .ok (.ldc_w 673, 3) := dc_19 (a := 2) (b := 161) (n := 673) (by decide +kernel)
theorem dX3_ship_66 : decode cX3_ship 66 = .ok (.if_icmp .ge 7, 3) := dc_162 (a := 0) (b := 7) (v := 7) (by decide +kernel)
theorem dX3_ship_69 : decode cX3_ship 69 = .ok (.iconst 1, 1) := dc_4 (by decide +kernel)
theorem dX3_ship_70 : decode cX3_ship 70 = .ok (.goto 4, 3) := dc_167 (a := 0) (b := 4) (v := 4) (by decide +kernel)
theorem dX3_ship_73 : decode cX3_ship 73 = .ok (.iconst 0, 1) := dc_3 (by decide +kernel)
theorem dX3_ship_74 : decode cX3_ship 74 = .ok (.istore_n 2, 1) := dc_61 (by decide +kernel)
theorem dX3_ship_75 : decode cX3_ship 75 = .ok (.aload_n 0, 1) := dc_42 (by decide +kernel)
theorem dX3_ship_76 : decode cX3_ship 76 = .ok (.getfield 14, 3) := dc_180 (a := 0) (b := 14) (n := 14) (by decide +kernel)
theorem dX3_ship_79 : decode cX3_ship 79 = .ok (.aload_n 0, 1) := dc_42 (by decide +kernel)
theorem dX3_ship_80 : decode cX3_ship 80 = .ok (.getfield 119, 3) := dc_180 (a := 0) (b := 119) (n := 119) (by decide +kernel)
theorem dX3_ship_83 : decode cX3_ship 83 = .ok (.iload_n 2, 1) := dc_28 (by decide +kernel)
theorem dX3_ship_84 : decode cX3_ship 84 = .ok (.invokevirtual 674, 3) := dc_182 (a := 2) (b := 162) (n := 674) (by decide +kernel)
theorem dX3_ship_87 : decode cX3_ship 87 = .ok (.bipush 17, 2) := dc_16 (a := 17) (v := 17) (by decide +kernel)
theorem dX3_ship_89 : decode cX3_ship 89 = .ok (.invokevirtual 289, 3) := dc_182 (a := 1) (b := 33) (n := 289) (by decide +kernel)
theorem dX3_ship_92 : decode cX3_ship 92 = .ok (.aload_n 0, 1) := dc_42 (by decide +kernel)
theorem dX3_ship_93 : decode cX3_ship 93 = .ok (.getfield 14, 3) := dc_180 (a := 0) (b := 14) (n := 14) (by decide +kernel)
theorem dX3_ship_96 : decode cX3_ship 96 = .ok (.iload_n 2, 1) := dc_28 (by decide +kernel)
theorem dX3_ship_97 : decode cX3_ship 97 = .ok (.bipush 7, 2) := dc_16 (a := 7) (v := 7) (by decide +kernel)
theorem dX3_ship_99 : decode cX3_ship 99 = .ok (.invokevirtual 289, 3) := dc_182 (a := 1) (b := 33) (n := 289) (by decide +kernel)
theorem dX3_ship_102 : decode cX3_ship 102 = .ok (.aload_n 0, 1) := dc_42 (by decide +kernel)
theorem dX3_ship_103 : decode cX3_ship 103 = .ok (.getfield 53, 3) := dc_180 (a := 0) (b := 53) (n := 53) (by decide +kernel)
theorem dX3_ship_106 : decode cX3_ship 106 = .ok (.iconst 0, 1) := dc_3 (by decide +kernel)
theorem dX3_ship_107 : decode cX3_ship 107 = .ok (.aload_n 0, 1) := dc_42 (by decide +kernel)
theorem dX3_ship_108 : decode cX3_ship 108 = .ok (.getfield 53, 3) := dc_180 (a := 0) (b := 53) (n := 53) (by decide +kernel)
theorem dX3_ship_111 : decode cX3_ship 111 = .ok (.getfield 311, 3) := dc_180 (a := 1) (b := 55) (n := 311) (by decide +kernel)
theorem dX3_ship_114 : decode cX3_ship 114 = .ok (.iconst 0, 1) := dc_3 (by decide +kernel)
theorem dX3_ship_115 : decode cX3_ship 115 = .ok (.iaload, 1) := dc_46 (by decide +kernel)
theorem dX3_ship_116 : decode cX3_ship 116 = .ok (.iconst 1, 1) := dc_4 (by decide +kernel)
theorem dX3_ship_117 : decode cX3_ship 117 = .ok (.iadd, 1) := dc_96 (by decide +kernel)
theorem dX3_ship_118 : decode cX3_ship 118 = .ok (.iconst 1, 1) := dc_4 (by decide +kernel)
theorem dX3_ship_119 : decode cX3_ship 119 = .ok (.invokevirtual 434, 3) := dc_182 (a := 1) (b := 178) (n := 434) (by decide +kernel)
theorem dX3_ship_122 : decode cX3_ship 122 = .ok (.return_, 1) := dc_177 (by decide +kernel)
theorem GX3_311 {w : eW} {d : Nat} {Y : eY} {pc : Nat} {ls : eL} {st : List Value} {h : eH} {Q : eO → eH → Prop} {a : Nat} {x : Nat} (hf : g_A 8 h a 3 = some x) (hd : decode Y.2.1 pc = .ok (.getfield 311, 3)) (hY : Y.1.cls = RX3) (kk : wp w d Y (pc + 3) ls (.ref x :: st) h Q) : wp w d Y pc ls (.ref a :: st) h Q := x_gAN (ci := 8) (k := 3) hf hd rfl (by decide) (by rw [hY]; exact q656) kk
theorem GX3_53 {w : eW} {d : Nat} {Y : eY} {pc : Nat} {ls : eL} {st : List Value} {h : eH} {Q : eO → eH → Prop} {a : Nat} {x : Nat} (hf : g_A 2 h a 6 = some x) (hd : decode Y.2.1 pc = .ok (.getfield 53, 3)) (hY : Y.1.cls = RX3) (kk : wp w d Y (pc + 3) ls (.ref x :: st) h Q) : wp w d Y pc ls (.ref a :: st) h Q := x_gA (ci := 2) (k := 6) hf hd rfl (by decide) (by rw [hY]; exact q1795) kk
theorem GX3_670 {w : eW} {d : Nat} {Y : eY} {pc : Nat} {ls : eL} {st : List Value} {h : eH} {Q : eO → eH → Prop} {a : Nat} {x : Nat} (hf : g_A 30 h a 2 = some x) (hd : decode Y.2.1 pc = .ok (.getfield 670, 3)) (hY : Y.1.cls = RX3) (kk : wp w d Y (pc + 3) ls (.ref x :: st) h Q) : wp w d Y pc ls (.ref a :: st) h Q := x_gAN (ci := 30) (k := 2) hf hd rfl (by decide) (by rw [hY]; exact q1718) kk
theorem SX3_665 {w : eW} {d : Nat} {Y : eY} {pc : Nat} {ls : eL} {st : List Value} {h : eH} {Q : eO → eH → Prop} {a : Nat} {h' : eH} {x : Int32} (hf : p_V 30 h a 8 (.int x) = some h') (hd : decode Y.2.1 pc = .ok (.putfield 665, 3)) (hY : Y.1.cls = RX3) (kk : wp w d Y (pc + 3) ls st h' Q) : wp w d Y pc ls (.int x :: .ref a :: st) h Q := x_pIN (ci := 30) (k := 8) hf hd rfl (by decide) (by rw [hY]; exact q1725) rfl rfl kk
def fX3_ship_b74 (N : Nat) (l0 : Nat) (s0 : Int32) (h : eH) : Option ((Unit ⊕ Nat) × eH) :=
  (g_A 2 h l0 0).bind fun a1 =>
  (g_A 2 h l0 15).bind fun a3 =>
  (k_ok 30 h a3).bind fun _ =>
  (fX31_ship N a3 s0 h).bind fun q6 =>
  (k_ok 3 q6.2 a1).bind fun _ =>
  t_B (fX4_want a1 q6.1 (17 : Int32) q6.2) fun x8 h9 =>
  (g_A 2 h9 l0 0).bind fun a10 =>
  (k_ok 3 h9 a10).bind fun _ =>
  t_B (fX4_want a10 s0 (7 : Int32) h9) fun x13 h14 =>
  (g_A 2 h14 l0 6).bind fun a15 =>
  (g_A 2 h14 l0 6).bind fun a17 =>
  (g_A 8 h14 a17 3).bind fun a19 =>
  (r_I 100 h14 a19 (0 : Int32)).bind fun x21 =>
  (k_ok 8 h14 a15).bind fun _ =>
  (fX9_set N a15 (0 : Int32) (x21 + (1 : Int32)) (1 : Int32) h14).bind fun q24 =>
  some (.inl (), q24.2)
theorem pX3_ship_b74 {w : eW} {d : Nat} (hd : 9 ≤ d + 1) {N : Nat} {l0 : Nat} {s0 : Int32} {h : eH} {q} (hf : fX3_ship_b74 N l0 s0 h = some q) : wp w (d + 1) YX3_ship 74 [some (.ref l0), none, none] [.int s0] h (e_is (e_rt c_V q)) := by
  unfold fX3_ship_b74 at hf
  refine w_istore_n dX3_ship_74 rfl (by decide) (ls' := [some (.ref l0), none, some (.int s0)]) rfl ?_
  refine w_aload_n dX3_ship_75 rfl rfl ?_
  obtain ⟨a1, b2, hf⟩ := Option.bind_eq_some_iff.mp hf
  refine GX3_14 b2 dX3_ship_76 rfl ?_
  refine w_aload_n dX3_ship_79 rfl rfl ?_
  obtain ⟨a3, b4, hf⟩ := Option.bind_eq_some_iff.mp hf
  refine GX3_119 b4 dX3_ship_80 rfl ?_
  refine w_iload_n dX3_ship_83 rfl rfl ?_
  obtain ⟨_, b5, hf⟩ := Option.bind_eq_some_iff.mp hf
  refine x_cnI hf (e_stV (Yc := YX31_ship) (ci := 30) (av := [.int s0]) (st := [.ref a1]) dX3_ship_84 q3383 mX31_ship rfl (k_ok_some b5).1 (k_ok_some b5).2) mX31_ship.2.2.1 mX31_ship.2.2.2.2.1 (Nat.le_of_ble_eq_true rfl) (Nat.le_of_ble_eq_true rfl) (fun q hq => pX31_ship (by omega) hq) (fun q6 hf => ?_)
  refine w_bipush dX3_ship_87 (v := 17) (by decide) ?_
  obtain ⟨_, b7, hf⟩ := Option.bind_eq_some_iff.mp hf
  refine x_ctV hf (e_stV (Yc := YX4_want) (ci := 3) (av := [.int q6.1, .int (17 : Int32)]) (st := []) dX3_ship_89 q2846 mX4_want rfl (k_ok_some b7).1 (k_ok_some b7).2) mX4_want.2.2.1 mX4_want.2.2.2.2.1 (Nat.le_of_ble_eq_true rfl) (Nat.le_of_ble_eq_true rfl) rfl (fun q hq => pX4_want (by omega) hq) (fun x8 h9 hf => ?_)
  refine w_aload_n dX3_ship_92 rfl rfl ?_
  obtain ⟨a10, b11, hf⟩ := Option.bind_eq_some_iff.mp hf
  refine GX3_14 b11 dX3_ship_93 rfl ?_
  refine w_iload_n dX3_ship_96 rfl rfl ?_
  refine w_bipush dX3_ship_97 (v := 7) (by decide) ?_
  obtain ⟨_, b12, hf⟩ := Option.bind_eq_some_iff.mp hf
  refine x_ctV hf (e_stV (Yc := YX4_want) (ci := 3) (av := [.int s0, .int (7 : Int32)]) (st := []) dX3_ship_99 q2846 mX4_want rfl (k_ok_some b12).1 (k_ok_some b12).2) mX4_want.2.2.1 mX4_want.2.2.2.2.1 (Nat.le_of_ble_eq_true rfl) (Nat.le_of_ble_eq_true rfl) rfl (fun q hq => pX4_want (by omega) hq) (fun x13 h14 hf => ?_)
  refine w_aload_n dX3_ship_102 rfl rfl ?_
  obtain ⟨a15, b16, hf⟩ := Option.bind_eq_some_iff.mp hf
  refine GX3_53 b16 dX3_ship_103 rfl ?_
  refine w_iconst dX3_ship_106 (v := 0) (by decide) ?_
  refine w_aload_n dX3_ship_107 rfl rfl ?_
  obtain ⟨a17, b18, hf⟩ := Option.bind_eq_some_iff.mp hf
  refine GX3_53 b18 dX3_ship_108 rfl ?_
  obtain ⟨a19, b20, hf⟩ := Option.bind_eq_some_iff.mp hf
  refine GX3_311 b20 dX3_ship_111 rfl ?_
  refine w_iconst dX3_ship_114 (v := 0) (by decide) ?_
  obtain ⟨x21, b22, hf⟩ := Option.bind_eq_some_iff.mp hf
  refine x_rI b22 dX3_ship_115 ?_
  refine w_iconst dX3_ship_116 (v := 1) (by decide) ?_
  refine w_iadd dX3_ship_117 ?_
  refine w_iconst dX3_ship_118 (v := 1) (by decide) ?_
  obtain ⟨_, b23, hf⟩ := Option.bind_eq_some_iff.mp hf
  refine x_cnV hf (e_stV (Yc := YX9_set) (ci := 8) (av := [.int (0 : Int32), .int (x21 + (1 : Int32)), .int (1 : Int32)]) (st := []) dX3_ship_119 q3474 mX9_set rfl (k_ok_some b23).1 (k_ok_some b23).2) mX9_set.2.2.1 mX9_set.2.2.2.2.1 (Nat.le_of_ble_eq_true rfl) (Nat.le_of_ble_eq_true rfl) (fun q hq => pX9_set (by omega) hq) (fun q24 hf => ?_)
  cases hf
  exact w_vret dX3_ship_122 rfl rfl
def fX3_ship_b24 (N : Nat) : Nat → Nat → Int32 → eH → Option ((Unit ⊕ Nat) × eH)
  | 0, _, _, _ => none
  | n + 1, l0, l2, h =>
    if (10 : Int32) ≤ l2 then
      (g_A 2 h l0 6).bind fun a2 =>
      (g_A 8 h a2 3).bind fun a4 =>
      (r_I 100 h a4 (0 : Int32)).bind fun x6 =>
      if (2147483647 : Int32) ≤ x6 then
        fX3_ship_b74 N l0 (0 : Int32) h
      else
        fX3_ship_b74 N l0 (1 : Int32) h
    else
      (g_A 2 h l0 15).bind fun a9 =>
      (g_A 30 h a9 2).bind fun a11 =>
      (g_A 2 h l0 6).bind fun a13 =>
      (g_A 8 h a13 3).bind fun a15 =>
      (r_I 100 h a15 l2).bind fun x17 =>
      (q_V 100 h a11 l2 (.int x17)).bind fun h19 =>
      fX3_ship_b24 N n l0 (l2 + (1 : Int32)) h19
theorem pX3_ship_b24 {w : eW} {d : Nat} (hd : 9 ≤ d + 1) {N : Nat} : ∀ (n : Nat) l0 l2 h q, fX3_ship_b24 N n l0 l2 h = some q → wp w (d + 1) YX3_ship 24 [some (.ref l0), none, some (.int l2)] [] h (e_is (e_rt c_V q)) := by
  intro n
  induction n with
  | zero => intro l0 l2 h q hf; simp [fX3_ship_b24] at hf
  | succ n ih =>
    intro l0 l2 h q hf
    rw [fX3_ship_b24] at hf
    refine w_iload_n dX3_ship_24 rfl rfl ?_
    refine w_bipush dX3_ship_25 (v := 10) (by decide) ?_
    refine w_icmp_ge 54 dX3_ship_27 (by decide) (fun c1 => ?_) (fun c1 => ?_)
    · replace hf := (if_pos (show (10 : Int32) ≤ l2 from c1)).symm.trans hf
      refine w_aload_n dX3_ship_54 rfl rfl ?_
      obtain ⟨a2, b3, hf⟩ := Option.bind_eq_some_iff.mp hf
      refine GX3_53 b3 dX3_ship_55 rfl ?_
      obtain ⟨a4, b5, hf⟩ := Option.bind_eq_some_iff.mp hf
      refine GX3_311 b5 dX3_ship_58 rfl ?_
      refine w_iconst dX3_ship_61 (v := 0) (by decide) ?_
      obtain ⟨x6, b7, hf⟩ := Option.bind_eq_some_iff.mp hf
      refine x_rI b7 dX3_ship_62 ?_
      refine w_ldc_w dX3_ship_63 q3382 ?_
      refine w_icmp_ge 73 dX3_ship_66 (by decide) (fun c8 => ?_) (fun c8 => ?_)
      · replace hf := (if_pos (show (2147483647 : Int32) ≤ x6 from c8)).symm.trans hf
        refine w_iconst dX3_ship_73 (v := 0) (by decide) ?_
        exact (pX3_ship_b74 hd hf).to ⟨rfl, trivial⟩
      · replace hf := (if_neg (show ¬ ((2147483647 : Int32) ≤ x6) from c8)).symm.trans hf
        refine w_iconst dX3_ship_69 (v := 1) (by decide) ?_
        refine w_goto 74 dX3_ship_70 (by decide) ?_
        exact (pX3_ship_b74 hd hf).to ⟨rfl, trivial⟩
    · replace hf := (if_neg (show ¬ ((10 : Int32) ≤ l2) from c1)).symm.trans hf
      refine w_aload_n dX3_ship_30 rfl rfl ?_
      obtain ⟨a9, b10, hf⟩ := Option.bind_eq_some_iff.mp hf
      refine GX3_119 b10 dX3_ship_31 rfl ?_
      obtain ⟨a11, b12, hf⟩ := Option.bind_eq_some_iff.mp hf
      refine GX3_670 b12 dX3_ship_34 rfl ?_
      refine w_iload_n dX3_ship_37 rfl rfl ?_
      refine w_aload_n dX3_ship_38 rfl rfl ?_
      obtain ⟨a13, b14, hf⟩ := Option.bind_eq_some_iff.mp hf
      refine GX3_53 b14 dX3_ship_39 rfl ?_
      obtain ⟨a15, b16, hf⟩ := Option.bind_eq_some_iff.mp hf
      refine GX3_311 b16 dX3_ship_42 rfl ?_
      refine w_iload_n dX3_ship_45 rfl rfl ?_
      obtain ⟨x17, b18, hf⟩ := Option.bind_eq_some_iff.mp hf
      refine x_rI b18 dX3_ship_46 ?_
      obtain ⟨h19, b20, hf⟩ := Option.bind_eq_some_iff.mp hf
      refine x_qI b20 dX3_ship_47 ?_
      refine w_iinc dX3_ship_48 (v := (l2 + (1 : Int32))) rfl rfl (by decide) (ls' := [some (.ref l0), none, some (.int (l2 + (1 : Int32)))]) rfl ?_
      refine w_goto 24 dX3_ship_51 (by decide) ?_
      exact (ih _ _ _ _ hf).to ⟨rfl, rfl, trivial⟩
def fX3_ship (N : Nat) (this : Nat) (p0 : Nat) (h : eH) : Option ((Unit ⊕ Nat) × eH) :=
  (k_ok 2 h this).bind fun _ =>
  t_B (fX3_wantFew N this p0 h) fun x2 h3 =>
  (k_ok 2 h3 this).bind fun _ =>
  t_B (fX3_lay N this p0 h3) fun x5 h6 =>
  (g_A 2 h6 this 15).bind fun a7 =>
  (p_V 30 h6 a7 8 (.int (0 : Int32))).bind fun h9 =>
  (k_ok 2 h9 this).bind fun _ =>
  t_B (fX3_hand N this h9) fun x12 h13 =>
  fX3_ship_b24 N N this (0 : Int32) h13
theorem pX3_ship {w : eW} {d : Nat} (hd : 9 ≤ d) {N : Nat} {this : Nat} {p0 : Nat} {h : eH} {q} (hf : fX3_ship N this p0 h = some q) : wm w d YX3_ship [.ref this, .ref p0] h (e_is (e_rt c_V q)) := by
  obtain ⟨d, rfl⟩ : ∃ e, d = e + 1 := ⟨d - 1, by omega⟩
  show wp w (d + 1) YX3_ship 0 [some (.ref this), some (.ref p0), none] [] h _
  unfold fX3_ship at hf
  refine w_aload_n dX3_ship_0 rfl rfl ?_
  refine w_aload_n dX3_ship_1 rfl rfl ?_
  obtain ⟨_, b1, hf⟩ := Option.bind_eq_some_iff.mp hf
  refine x_ctV hf (e_stV (Yc := YX3_wantFew) (ci := 2) (av := [.ref p0]) (st := []) dX3_ship_2 q3298 mX3_wantFew rfl (k_ok_some b1).1 (k_ok_some b1).2) mX3_wantFew.2.2.1 mX3_wantFew.2.2.2.2.1 (Nat.le_of_ble_eq_true rfl) (Nat.le_of_ble_eq_true rfl) rfl (fun q hq => pX3_wantFew (by omega) hq) (fun x2 h3 hf => ?_)
  refine w_aload_n dX3_ship_5 rfl rfl ?_
  refine w_aload_n dX3_ship_6 rfl rfl ?_
  obtain ⟨_, b4, hf⟩ := Option.bind_eq_some_iff.mp hf
  refine x_ctV hf (e_stV (Yc := YX3_lay) (ci := 2) (av := [.ref p0]) (st := []) dX3_ship_7 q3303 mX3_lay rfl (k_ok_some b4).1 (k_ok_some b4).2) mX3_lay.2.2.1 mX3_lay.2.2.2.2.1 (Nat.le_of_ble_eq_true rfl) (Nat.le_of_ble_eq_true rfl) rfl (fun q hq => pX3_lay (by omega) hq) (fun x5 h6 hf => ?_)
  refine w_aload_n dX3_ship_10 rfl rfl ?_
  obtain ⟨a7, b8, hf⟩ := Option.bind_eq_some_iff.mp hf
  refine GX3_119 b8 dX3_ship_11 rfl ?_
  refine w_iconst dX3_ship_14 (v := 0) (by decide) ?_
  obtain ⟨h9, b10, hf⟩ := Option.bind_eq_some_iff.mp hf
  refine SX3_665 b10 dX3_ship_15 rfl ?_
  refine w_aload_n dX3_ship_18 rfl rfl ?_
  obtain ⟨_, b11, hf⟩ := Option.bind_eq_some_iff.mp hf
  refine x_ctV hf (e_stV (Yc := YX3_hand) (ci := 2) (av := []) (st := []) dX3_ship_19 q3369 mX3_hand rfl (k_ok_some b11).1 (k_ok_some b11).2) mX3_hand.2.2.1 mX3_hand.2.2.2.2.1 (Nat.le_of_ble_eq_true rfl) (Nat.le_of_ble_eq_true rfl) rfl (fun q hq => pX3_hand (by omega) hq) (fun x12 h13 hf => ?_)
  refine w_iconst dX3_ship_22 (v := 0) (by decide) ?_
  refine w_istore_n dX3_ship_23 rfl (by decide) (ls' := [some (.ref this), some (.ref p0), some (.int (0 : Int32))]) rfl ?_
  exact (pX3_ship_b24 hd N _ _ _ _ hf).to ⟨rfl, rfl, trivial⟩
abbrev cX3_goOn : ByteArray := prog_26_method_37_code
def yX3_goOn : MethodName := ⟨RX3, "goOn", "()V"⟩
def YX3_goOn : eY := (yX3_goOn, cX3_goOn, 1, none, [])
theorem mX3_goOn : e_mv YX3_goOn RX3 0 := ⟨q3214, qs119, q3215, by decide, by decide +kernel, (e_sig (by decide +kernel))⟩
theorem dX3_goOn_0 : decode cX3_goOn 0 = .ok (.aload_n 0, 1) := dc_42 (by decide +kernel)
theorem dX3_goOn_1 : decode cX3_goOn 1 = .ok (.getfield 103, 3) := dc_180 (a := 0) (b := 103) (n := 103) (by decide +kernel)
theorem dX3_goOn_4 : decode cX3_goOn 4 = .ok (.iconst 0, 1) := dc_3 (by decide +kernel)
theorem dX3_goOn_5 : decode cX3_goOn 5 = .ok (.aload_n 0, 1) := dc_42 (by decide +kernel)
theorem dX3_goOn_6 : decode cX3_goOn 6 = .ok (.getfield 53, 3) := dc_180 (a := 0) (b := 53) (n := 53) (by decide +kernel)
theorem dX3_goOn_9 : decode cX3_goOn 9 = .ok (.getfield 311, 3) := dc_180 (a := 1) (b := 55) (n := 311) (by decide +kernel)
theorem dX3_goOn_12 : decode cX3_goOn 12 = .ok (.sipush 526, 3) := dc_17 (a := 2) (b := 14) (v := 526) (by decide +kernel)
theorem dX3_goOn_15 : decode cX3_goOn 15 = .ok (.iaload, 1) := dc_46 (by decide +kernel)
theorem dX3_goOn_16 : decode cX3_goOn 16 = .ok (.invokestatic 370, 3) := dc_184 (a := 1) (b := 114) (n := 370) (by decide +kernel)
theorem dX3_goOn_19 : decode cX3_goOn 19 = .ok (.putfield 571, 3) := dc_181 (a := 2) (b := 59) (n := 571) (by decide +kernel)
theorem dX3_goOn_22 : decode cX3_goOn 22 = .ok (.aload_n 0, 1) := dc_42 (by decide +kernel)
theorem dX3_goOn_23 : decode cX3_goOn 23 = .ok (.getfield 103, 3) := dc_180 (a := 0) (b := 103) (n := 103) (by decide +kernel)
theorem dX3_goOn_26 : decode cX3_goOn 26 = .ok (.aload_n 0, 1) := dc_42 (by decide +kernel)
theorem dX3_goOn_27 : decode cX3_goOn 27 = .ok (.getfield 53, 3) := dc_180 (a := 0) (b := 53) (n := 53) (by decide +kernel)
theorem dX3_goOn_30 : decode cX3_goOn 30 = .ok (.getfield 311, 3) := dc_180 (a := 1) (b := 55) (n := 311) (by decide +kernel)
theorem dX3_goOn_33 : decode cX3_goOn 33 = .ok (.sipush 1567, 3) := dc_17 (a := 6) (b := 31) (v := 1567) (by decide +kernel)
theorem dX3_goOn_36 : decode cX3_goOn 36 = .ok (.iaload, 1) := dc_46 (by decide +kernel)
theorem dX3_goOn_37 : decode cX3_goOn 37 = .ok (.putfield 572, 3) := dc_181 (a := 2) (b := 60) (n := 572) (by decide +kernel)
theorem dX3_goOn_40 : decode cX3_goOn 40 = .ok (.aload_n 0, 1) := dc_42 (by decide +kernel)
theorem dX3_goOn_41 : decode cX3_goOn 41 = .ok (.getfield 103, 3) := dc_180 (a := 0) (b := 103) (n := 103) (by decide +kernel)
theorem dX3_goOn_44 : decode cX3_goOn 44 = .ok (.iconst 0, 1) := dc_3 (by decide +kernel)
theorem dX3_goOn_45 : decode cX3_goOn 45 = .ok (.aload_n 0, 1) := dc_42 (by decide +kernel)
theorem dX3_goOn_46 : decode cX3_goOn 46 = .ok (.getfield 53, 3) := dc_180 (a := 0) (b := 53) (n := 53) (by decide +kernel)
theorem dX3_goOn_49 : decode cX3_goOn 49 = .ok (.getfield 311, 3) := dc_180 (a := 1) (b := 55) (n := 311) (by decide +kernel)
theorem dX3_goOn_52 : decode cX3_goOn 52 = .ok (.sipush 529, 3) := dc_17 (a := 2) (b := 17) (v := 529) (by decide +kernel)
theorem dX3_goOn_55 : decode cX3_goOn 55 = .ok (.iaload, 1) := dc_46 (by decide +kernel)
theorem dX3_goOn_56 : decode cX3_goOn 56 = .ok (.invokestatic 370, 3) := dc_184 (a := 1) (b := 114) (n := 370) (by decide +kernel)
theorem dX3_goOn_59 : decode cX3_goOn 59 = .ok (.putfield 573, 3) := dc_181 (a := 2) (b := 61) (n := 573) (by decide +kernel)
theorem dX3_goOn_62 : decode cX3_goOn 62 = .ok (.aload_n 0, 1) := dc_42 (by decide +kernel)
theorem dX3_goOn_63 : decode cX3_goOn 63 = .ok (.getfield 103, 3) := dc_180 (a := 0) (b := 103) (n := 103) (by decide +kernel)
theorem dX3_goOn_66 : decode cX3_goOn 66 = .ok (.invokevirtual 576, 3) := dc_182 (a := 2) (b := 64) (n := 576) (by decide +kernel)
theorem dX3_goOn_69 : decode cX3_goOn 69 = .ok (.ifCond .eq 27, 3) := dc_153 (a := 0) (b := 27) (v := 27) (by decide +kernel)
theorem dX3_goOn_72 : decode cX3_goOn 72 = .ok (.aload_n 0, 1) := dc_42 (by decide +kernel)
theorem dX3_goOn_73 : decode cX3_goOn 73 = .ok (.getfield 103, 3) := dc_180 (a := 0) (b := 103) (n := 103) (by decide +kernel)
theorem dX3_goOn_76 : decode cX3_goOn 76 = .ok (.invokevirtual 579, 3) := dc_182 (a := 2) (b := 67) (n := 579) (by decide +kernel)
theorem dX3_goOn_79 : decode cX3_goOn 79 = .ok (.ifCond .eq (-17), 3) := dc_153 (a := 255) (b := 239) (v := -17) (by decide +kernel)
theorem dX3_goOn_82 : decode cX3_goOn 82 = .ok (.aload_n 0, 1) := dc_42 (by decide +kernel)
theorem dX3_goOn_83 : decode cX3_goOn 83 = .ok (.aload_n 0, 1) := dc_42 (by decide +kernel)
theorem dX3_goOn_84 : decode cX3_goOn 84 = .ok (.getfield 103, 3) := dc_180 (a := 0) (b := 103) (n := 103) (by decide +kernel)
theorem dX3_goOn_87 : decode cX3_goOn 87 = .ok (.getfield 582, 3) := dc_180 (a := 2) (b := 70) (n := 582) (by decide +kernel)
theorem dX3_goOn_90 : decode cX3_goOn 90 = .ok (.invokevirtual 586, 3) := dc_182 (a := 2) (b := 74) (n := 586) (by decide +kernel)
theorem dX3_goOn_93 : decode cX3_goOn 93 = .ok (.goto (-31), 3) := dc_167 (a := 255) (b := 225) (v := -31) (by decide +kernel)
theorem dX3_goOn_96 : decode cX3_goOn 96 = .ok (.return_, 1) := dc_177 (by decide +kernel)
theorem GX3_582 {w : eW} {d : Nat} {Y : eY} {pc : Nat} {ls : eL} {st : List Value} {h : eH} {Q : eO → eH → Prop} {a : Nat} {x : Nat} (hf : g_A 27 h a 7 = some x) (hd : decode Y.2.1 pc = .ok (.getfield 582, 3)) (hY : Y.1.cls = RX3) (kk : wp w d Y (pc + 3) ls (.ref x :: st) h Q) : wp w d Y pc ls (.ref a :: st) h Q := x_gAN (ci := 27) (k := 7) hf hd rfl (by decide) (by rw [hY]; exact q1629) kk
theorem SX3_571 {w : eW} {d : Nat} {Y : eY} {pc : Nat} {ls : eL} {st : List Value} {h : eH} {Q : eO → eH → Prop} {a : Nat} {h' : eH} {x : Int32} (hf : p_V 27 h a 3 (.int x) = some h') (hd : decode Y.2.1 pc = .ok (.putfield 571, 3)) (hY : Y.1.cls = RX3) (kk : wp w d Y (pc + 3) ls st h' Q) : wp w d Y pc ls (.int x :: .ref a :: st) h Q := x_pIN (ci := 27) (k := 3) hf hd rfl (by decide) (by rw [hY]; exact q1622) rfl rfl kk
theorem SX3_572 {w : eW} {d : Nat} {Y : eY} {pc : Nat} {ls : eL} {st : List Value} {h : eH} {Q : eO → eH → Prop} {a : Nat} {h' : eH} {x : Int32} (hf : p_V 27 h a 4 (.int x) = some h') (hd : decode Y.2.1 pc = .ok (.putfield 572, 3)) (hY : Y.1.cls = RX3) (kk : wp w d Y (pc + 3) ls st h' Q) : wp w d Y pc ls (.int x :: .ref a :: st) h Q := x_pIN (ci := 27) (k := 4) hf hd rfl (by decide) (by rw [hY]; exact q1624) rfl rfl kk
theorem SX3_573 {w : eW} {d : Nat} {Y : eY} {pc : Nat} {ls : eL} {st : List Value} {h : eH} {Q : eO → eH → Prop} {a : Nat} {h' : eH} {x : Int32} (hf : p_V 27 h a 5 (.int x) = some h') (hd : decode Y.2.1 pc = .ok (.putfield 573, 3)) (hY : Y.1.cls = RX3) (kk : wp w d Y (pc + 3) ls st h' Q) : wp w d Y pc ls (.int x :: .ref a :: st) h Q := x_pIN (ci := 27) (k := 5) hf hd rfl (by decide) (by rw [hY]; exact q1626) rfl rfl kk
def fX3_goOn_b62 (N : Nat) : Nat → Nat → eH → Option ((Unit ⊕ Nat) × eH)
  | 0, _, _ => none
  | n + 1, l0, h =>
    (g_A 2 h l0 13).bind fun a1 =>
    (k_ok 27 h a1).bind fun _ =>
    (fX28_canStep a1 h).bind fun q4 =>
    if q4.1 = 0 then
      some (.inl (), q4.2)
    else
      (g_A 2 q4.2 l0 13).bind fun a6 =>
      (k_ok 27 q4.2 a6).bind fun _ =>
      (fX28_step N a6 q4.2).bind fun q9 =>
      if q9.1 = 0 then
        fX3_goOn_b62 N n l0 q9.2
      else
        (g_A 2 q9.2 l0 13).bind fun a11 =>
        (g_A 27 q9.2 a11 7).bind fun a13 =>
        (k_ok 2 q9.2 l0).bind fun _ =>
        t_B (fX3_ship N l0 a13 q9.2) fun x16 h17 =>
        fX3_goOn_b62 N n l0 h17
theorem pX3_goOn_b62 {w : eW} {d : Nat} (hd : 10 ≤ d + 1) {N : Nat} : ∀ (n : Nat) l0 h q, fX3_goOn_b62 N n l0 h = some q → wp w (d + 1) YX3_goOn 62 [some (.ref l0)] [] h (e_is (e_rt c_V q)) := by
  intro n
  induction n with
  | zero => intro l0 h q hf; simp [fX3_goOn_b62] at hf
  | succ n ih =>
    intro l0 h q hf
    rw [fX3_goOn_b62] at hf
    refine w_aload_n dX3_goOn_62 rfl rfl ?_
    obtain ⟨a1, b2, hf⟩ := Option.bind_eq_some_iff.mp hf
    refine GX3_103 b2 dX3_goOn_63 rfl ?_
    obtain ⟨_, b3, hf⟩ := Option.bind_eq_some_iff.mp hf
    refine x_cnI hf (e_stV (Yc := YX28_canStep) (ci := 27) (av := []) (st := []) dX3_goOn_66 q3217 mX28_canStep rfl (k_ok_some b3).1 (k_ok_some b3).2) mX28_canStep.2.2.1 mX28_canStep.2.2.2.2.1 (Nat.le_of_ble_eq_true rfl) (Nat.le_of_ble_eq_true rfl) (fun q hq => pX28_canStep (by omega) hq) (fun q4 hf => ?_)
    refine w_if_eq 96 dX3_goOn_69 (by decide) (fun c5 => ?_) (fun c5 => ?_)
    · replace hf := (if_pos (show q4.1 = 0 from c5)).symm.trans hf
      cases hf
      exact w_vret dX3_goOn_96 rfl rfl
    · replace hf := (if_neg (show ¬ (q4.1 = 0) from c5)).symm.trans hf
      refine w_aload_n dX3_goOn_72 rfl rfl ?_
      obtain ⟨a6, b7, hf⟩ := Option.bind_eq_some_iff.mp hf
      refine GX3_103 b7 dX3_goOn_73 rfl ?_
      obtain ⟨_, b8, hf⟩ := Option.bind_eq_some_iff.mp hf
      refine x_cnI hf (e_stV (Yc := YX28_step) (ci := 27) (av := []) (st := []) dX3_goOn_76 q3225 mX28_step rfl (k_ok_some b8).1 (k_ok_some b8).2) mX28_step.2.2.1 mX28_step.2.2.2.2.1 (Nat.le_of_ble_eq_true rfl) (Nat.le_of_ble_eq_true rfl) (fun q hq => pX28_step (by omega) hq) (fun q9 hf => ?_)
      refine w_if_eq 62 dX3_goOn_79 (by decide) (fun c10 => ?_) (fun c10 => ?_)
      · replace hf := (if_pos (show q9.1 = 0 from c10)).symm.trans hf
        exact (ih _ _ _ hf).to ⟨rfl, trivial⟩
      · replace hf := (if_neg (show ¬ (q9.1 = 0) from c10)).symm.trans hf
        refine w_aload_n dX3_goOn_82 rfl rfl ?_
        refine w_aload_n dX3_goOn_83 rfl rfl ?_
        obtain ⟨a11, b12, hf⟩ := Option.bind_eq_some_iff.mp hf
        refine GX3_103 b12 dX3_goOn_84 rfl ?_
        obtain ⟨a13, b14, hf⟩ := Option.bind_eq_some_iff.mp hf
        refine GX3_582 b14 dX3_goOn_87 rfl ?_
        obtain ⟨_, b15, hf⟩ := Option.bind_eq_some_iff.mp hf
        refine x_ctV hf (e_stV (Yc := YX3_ship) (ci := 2) (av := [.ref a13]) (st := []) dX3_goOn_90 q3294 mX3_ship rfl (k_ok_some b15).1 (k_ok_some b15).2) mX3_ship.2.2.1 mX3_ship.2.2.2.2.1 (Nat.le_of_ble_eq_true rfl) (Nat.le_of_ble_eq_true rfl) rfl (fun q hq => pX3_ship (by omega) hq) (fun x16 h17 hf => ?_)
        refine w_goto 62 dX3_goOn_93 (by decide) ?_
        exact (ih _ _ _ hf).to ⟨rfl, trivial⟩
def fX3_goOn (N : Nat) (this : Nat) (h : eH) : Option ((Unit ⊕ Nat) × eH) :=
  (g_A 2 h this 13).bind fun a1 =>
  (g_A 2 h this 6).bind fun a3 =>
  (g_A 8 h a3 3).bind fun a5 =>
  (r_I 100 h a5 (526 : Int32)).bind fun x7 =>
  (p_V 27 h a1 3 (.int (m_maxI (0 : Int32) x7))).bind fun h9 =>
  (g_A 2 h9 this 13).bind fun a11 =>
  (g_A 2 h9 this 6).bind fun a13 =>
  (g_A 8 h9 a13 3).bind fun a15 =>
  (r_I 100 h9 a15 (1567 : Int32)).bind fun x17 =>
  (p_V 27 h9 a11 4 (.int x17)).bind fun h19 =>
  (g_A 2 h19 this 13).bind fun a21 =>
  (g_A 2 h19 this 6).bind fun a23 =>
  (g_A 8 h19 a23 3).bind fun a25 =>
  (r_I 100 h19 a25 (529 : Int32)).bind fun x27 =>
  (p_V 27 h19 a21 5 (.int (m_maxI (0 : Int32) x27))).bind fun h29 =>
  fX3_goOn_b62 N N this h29
theorem pX3_goOn {w : eW} {d : Nat} (hd : 10 ≤ d) {N : Nat} {this : Nat} {h : eH} {q} (hf : fX3_goOn N this h = some q) : wm w d YX3_goOn [.ref this] h (e_is (e_rt c_V q)) := by
  obtain ⟨d, rfl⟩ : ∃ e, d = e + 1 := ⟨d - 1, by omega⟩
  show wp w (d + 1) YX3_goOn 0 [some (.ref this)] [] h _
  unfold fX3_goOn at hf
  refine w_aload_n dX3_goOn_0 rfl rfl ?_
  obtain ⟨a1, b2, hf⟩ := Option.bind_eq_some_iff.mp hf
  refine GX3_103 b2 dX3_goOn_1 rfl ?_
  refine w_iconst dX3_goOn_4 (v := 0) (by decide) ?_
  refine w_aload_n dX3_goOn_5 rfl rfl ?_
  obtain ⟨a3, b4, hf⟩ := Option.bind_eq_some_iff.mp hf
  refine GX3_53 b4 dX3_goOn_6 rfl ?_
  obtain ⟨a5, b6, hf⟩ := Option.bind_eq_some_iff.mp hf
  refine GX3_311 b6 dX3_goOn_9 rfl ?_
  refine w_sipush dX3_goOn_12 (v := 526) (by decide) ?_
  obtain ⟨x7, b8, hf⟩ := Option.bind_eq_some_iff.mp hf
  refine x_rI b8 dX3_goOn_15 ?_
  refine x_maxI dX3_goOn_16 q3216 q2912 q478 q2913 (Nat.le_of_ble_eq_true rfl) ?_
  obtain ⟨h9, b10, hf⟩ := Option.bind_eq_some_iff.mp hf
  refine SX3_571 b10 dX3_goOn_19 rfl ?_
  refine w_aload_n dX3_goOn_22 rfl rfl ?_
  obtain ⟨a11, b12, hf⟩ := Option.bind_eq_some_iff.mp hf
  refine GX3_103 b12 dX3_goOn_23 rfl ?_
  refine w_aload_n dX3_goOn_26 rfl rfl ?_
  obtain ⟨a13, b14, hf⟩ := Option.bind_eq_some_iff.mp hf
  refine GX3_53 b14 dX3_goOn_27 rfl ?_
  obtain ⟨a15, b16, hf⟩ := Option.bind_eq_some_iff.mp hf
  refine GX3_311 b16 dX3_goOn_30 rfl ?_
  refine w_sipush dX3_goOn_33 (v := 1567) (by decide) ?_
  obtain ⟨x17, b18, hf⟩ := Option.bind_eq_some_iff.mp hf
  refine x_rI b18 dX3_goOn_36 ?_
  obtain ⟨h19, b20, hf⟩ := Option.bind_eq_some_iff.mp hf
  refine SX3_572 b20 dX3_goOn_37 rfl ?_
  refine w_aload_n dX3_goOn_40 rfl rfl ?_
  obtain ⟨a21, b22, hf⟩ := Option.bind_eq_some_iff.mp hf
  refine GX3_103 b22 dX3_goOn_41 rfl ?_
  refine w_iconst dX3_goOn_44 (v := 0) (by decide) ?_
  refine w_aload_n dX3_goOn_45 rfl rfl ?_
  obtain ⟨a23, b24, hf⟩ := Option.bind_eq_some_iff.mp hf
  refine GX3_53 b24 dX3_goOn_46 rfl ?_
  obtain ⟨a25, b26, hf⟩ := Option.bind_eq_some_iff.mp hf
  refine GX3_311 b26 dX3_goOn_49 rfl ?_
  refine w_sipush dX3_goOn_52 (v := 529) (by decide) ?_
  obtain ⟨x27, b28, hf⟩ := Option.bind_eq_some_iff.mp hf
  refine x_rI b28 dX3_goOn_55 ?_
  refine x_maxI dX3_goOn_56 q3216 q2912 q478 q2913 (Nat.le_of_ble_eq_true rfl) ?_
  obtain ⟨h29, b30, hf⟩ := Option.bind_eq_some_iff.mp hf
  refine SX3_573 b30 dX3_goOn_59 rfl ?_
  exact (pX3_goOn_b62 hd N _ _ _ hf).to ⟨rfl, trivial⟩
abbrev cX3_addVertical : ByteArray := prog_26_method_13_code
def yX3_addVertical : MethodName := ⟨RX3, "addVertical", "(IIIII)V"⟩
def YX3_addVertical : eY := (yX3_addVertical, cX3_addVertical, 6, none, [])
theorem mX3_addVertical : e_mv YX3_addVertical RX3 5 := ⟨q3200, qs118, q3201, by decide, by decide +kernel, (e_sig (by decide +kernel))⟩
theorem dX3_addVertical_0 : decode cX3_addVertical 0 = .ok (.aload_n 0, 1) := dc_42 (by decide +kernel)
theorem dX3_addVertical_1 : decode cX3_addVertical 1 = .ok (.getfield 136, 3) := dc_180 (a := 0) (b := 136) (n := 136) (by decide +kernel)
theorem dX3_addVertical_4 : decode cX3_addVertical 4 = .ok (.aload_n 0, 1) := dc_42 (by decide +kernel)
theorem dX3_addVertical_5 : decode cX3_addVertical 5 = .ok (.getfield 211, 3) := dc_180 (a := 0) (b := 211) (n := 211) (by decide +kernel)
theorem dX3_addVertical_8 : decode cX3_addVertical 8 = .ok (.iaload, 1) := dc_46 (by decide +kernel)
theorem dX3_addVertical_9 : decode cX3_addVertical 9 = .ok (.ifCond .eq 16, 3) := dc_153 (a := 0) (b := 16) (v := 16) (by decide +kernel)
theorem dX3_addVertical_12 : decode cX3_addVertical 12 = .ok (.aload_n 0, 1) := dc_42 (by decide +kernel)
theorem dX3_addVertical_13 : decode cX3_addVertical 13 = .ok (.iload_n 1, 1) := dc_27 (by decide +kernel)
theorem dX3_addVertical_14 : decode cX3_addVertical 14 = .ok (.iload_n 2, 1) := dc_28 (by decide +kernel)
theorem dX3_addVertical_15 : decode cX3_addVertical 15 = .ok (.iload_n 3, 1) := dc_29 (by decide +kernel)
theorem dX3_addVertical_16 : decode cX3_addVertical 16 = .ok (.iload 4, 2) := dc_21 (a := 4) (by decide +kernel)
theorem dX3_addVertical_18 : decode cX3_addVertical 18 = .ok (.iload 5, 2) := dc_21 (a := 5) (by decide +kernel)
theorem dX3_addVertical_20 : decode cX3_addVertical 20 = .ok (.iconst 0, 1) := dc_3 (by decide +kernel)
theorem dX3_addVertical_21 : decode cX3_addVertical 21 = .ok (.invokevirtual 318, 3) := dc_182 (a := 1) (b := 62) (n := 318) (by decide +kernel)
theorem dX3_addVertical_24 : decode cX3_addVertical 24 = .ok (.return_, 1) := dc_177 (by decide +kernel)
theorem dX3_addVertical_25 : decode cX3_addVertical 25 = .ok (.aload_n 0, 1) := dc_42 (by decide +kernel)
theorem dX3_addVertical_26 : decode cX3_addVertical 26 = .ok (.getfield 14, 3) := dc_180 (a := 0) (b := 14) (n := 14) (by decide +kernel)
theorem dX3_addVertical_29 : decode cX3_addVertical 29 = .ok (.aload_n 0, 1) := dc_42 (by decide +kernel)
theorem dX3_addVertical_30 : decode cX3_addVertical 30 = .ok (.getfield 94, 3) := dc_180 (a := 0) (b := 94) (n := 94) (by decide +kernel)
theorem dX3_addVertical_33 : decode cX3_addVertical 33 = .ok (.getfield 194, 3) := dc_180 (a := 0) (b := 194) (n := 194) (by decide +kernel)
theorem dX3_addVertical_36 : decode cX3_addVertical 36 = .ok (.sipush 10000, 3) := dc_17 (a := 39) (b := 16) (v := 10000) (by decide +kernel)
theorem dX3_addVertical_39 : decode cX3_addVertical 39 = .ok (.if_icmp .ge 7, 3) := dc_162 (a := 0) (b := 7) (v := 7) (by decide +kernel)
theorem dX3_addVertical_42 : decode cX3_addVertical 42 = .ok (.iconst 1, 1) := dc_4 (by decide +kernel)
theorem dX3_addVertical_43 : decode cX3_addVertical 43 = .ok (.goto 4, 3) := dc_167 (a := 0) (b := 4) (v := 4) (by decide +kernel)
theorem dX3_addVertical_46 : decode cX3_addVertical 46 = .ok (.iconst 0, 1) := dc_3 (by decide +kernel)
theorem dX3_addVertical_47 : decode cX3_addVertical 47 = .ok (.iconst 2, 1) := dc_5 (by decide +kernel)
theorem dX3_addVertical_48 : decode cX3_addVertical 48 = .ok (.invokevirtual 289, 3) := dc_182 (a := 1) (b := 33) (n := 289) (by decide +kernel)
theorem dX3_addVertical_51 : decode cX3_addVertical 51 = .ok (.iload_n 1, 1) := dc_27 (by decide +kernel)
theorem dX3_addVertical_52 : decode cX3_addVertical 52 = .ok (.tableswitch 126 1 5 #[86, 36, 54, 126, 70], 36) := by decide +kernel
theorem dX3_addVertical_88 : decode cX3_addVertical 88 = .ok (.aload_n 0, 1) := dc_42 (by decide +kernel)
theorem dX3_addVertical_89 : decode cX3_addVertical 89 = .ok (.getfield 94, 3) := dc_180 (a := 0) (b := 94) (n := 94) (by decide +kernel)
theorem dX3_addVertical_92 : decode cX3_addVertical 92 = .ok (.iconst 1, 1) := dc_4 (by decide +kernel)
theorem dX3_addVertical_93 : decode cX3_addVertical 93 = .ok (.iload_n 2, 1) := dc_28 (by decide +kernel)
theorem dX3_addVertical_94 : decode cX3_addVertical 94 = .ok (.iload_n 3, 1) := dc_29 (by decide +kernel)
theorem dX3_addVertical_95 : decode cX3_addVertical 95 = .ok (.iload 5, 2) := dc_21 (a := 5) (by decide +kernel)
theorem dX3_addVertical_97 : decode cX3_addVertical 97 = .ok (.iload 4, 2) := dc_21 (a := 4) (by decide +kernel)
theorem dX3_addVertical_99 : decode cX3_addVertical 99 = .ok (.iconst 0, 1) := dc_3 (by decide +kernel)
theorem dX3_addVertical_100 : decode cX3_addVertical 100 = .ok (.invokevirtual 325, 3) := dc_182 (a := 1) (b := 69) (n := 325) (by decide +kernel)
theorem dX3_addVertical_103 : decode cX3_addVertical 103 = .ok (.goto 104, 3) := dc_167 (a := 0) (b := 104) (v := 104) (by decide +kernel)
theorem dX3_addVertical_106 : decode cX3_addVertical 106 = .ok (.aload_n 0, 1) := dc_42 (by decide +kernel)
theorem dX3_addVertical_107 : decode cX3_addVertical 107 = .ok (.getfield 94, 3) := dc_180 (a := 0) (b := 94) (n := 94) (by decide +kernel)
theorem dX3_addVertical_110 : decode cX3_addVertical 110 = .ok (.iconst 2, 1) := dc_5 (by decide +kernel)
theorem dX3_addVertical_111 : decode cX3_addVertical 111 = .ok (.iload_n 2, 1) := dc_28 (by decide +kernel)
theorem dX3_addVertical_112 : decode cX3_addVertical 112 = .ok (.iconst 0, 1) := dc_3 (by decide +kernel)
theorem dX3_addVertical_113 : decode cX3_addVertical 113 = .ok (.iconst 0, 1) := dc_3 (by decide +kernel)
theorem dX3_addVertical_114 : decode cX3_addVertical 114 = .ok (.iconst 0, 1) := dc_3 (by decide +kernel)
theorem dX3_addVertical_115 : decode cX3_addVertical 115 = .ok (.iconst 0, 1) := dc_3 (by decide +kernel)
theorem dX3_addVertical_116 : decode cX3_addVertical 116 = .ok (.invokevirtual 325, 3) := dc_182 (a := 1) (b := 69) (n := 325) (by decide +kernel)
theorem dX3_addVertical_119 : decode cX3_addVertical 119 = .ok (.goto 88, 3) := dc_167 (a := 0) (b := 88) (v := 88) (by decide +kernel)
theorem dX3_addVertical_122 : decode cX3_addVertical 122 = .ok (.aload_n 0, 1) := dc_42 (by decide +kernel)
theorem dX3_addVertical_123 : decode cX3_addVertical 123 = .ok (.getfield 94, 3) := dc_180 (a := 0) (b := 94) (n := 94) (by decide +kernel)
theorem dX3_addVertical_126 : decode cX3_addVertical 126 = .ok (.iconst 3, 1) := dc_6 (by decide +kernel)
theorem dX3_addVertical_127 : decode cX3_addVertical 127 = .ok (.iload_n 2, 1) := dc_28 (by decide +kernel)
theorem dX3_addVertical_128 : decode cX3_addVertical 128 = .ok (.iconst 0, 1) := dc_3 (by decide +kernel)
theorem dX3_addVertical_129 : decode cX3_addVertical 129 = .ok (.iconst 0, 1) := dc_3 (by decide +kernel)
theorem dX3_addVertical_130 : decode cX3_addVertical 130 = .ok (.iconst 0, 1) := dc_3 (by decide +kernel)
theorem dX3_addVertical_131 : decode cX3_addVertical 131 = .ok (.iconst 0, 1) := dc_3 (by decide +kernel)
theorem dX3_addVertical_132 : decode cX3_addVertical 132 = .ok (.invokevirtual 325, 3) := dc_182 (a := 1) (b := 69) (n := 325) (by decide +kernel)
theorem dX3_addVertical_135 : decode cX3_addVertical 135 = .ok (.goto 72, 3) := dc_167 (a := 0) (b := 72) (v := 72) (by decide +kernel)
theorem dX3_addVertical_138 : decode cX3_addVertical 138 = .ok (.aload_n 0, 1) := dc_42 (by decide +kernel)
theorem dX3_addVertical_139 : decode cX3_addVertical 139 = .ok (.getfield 94, 3) := dc_180 (a := 0) (b := 94) (n := 94) (by decide +kernel)
theorem dX3_addVertical_142 : decode cX3_addVertical 142 = .ok (.iconst 0, 1) := dc_3 (by decide +kernel)
theorem dX3_addVertical_143 : decode cX3_addVertical 143 = .ok (.iconst (-1), 1) := dc_2 (by decide +kernel)
theorem dX3_addVertical_144 : decode cX3_addVertical 144 = .ok (.iload_n 3, 1) := dc_29 (by decide +kernel)
theorem dX3_addVertical_145 : decode cX3_addVertical 145 = .ok (.ldc_w 326, 3) := dc_19 (a := 1) (b := 70) (n := 326) (by decide +kernel)
theorem dX3_addVertical_148 : decode cX3_addVertical 148 = .ok (.if_icmp .ne 7, 3) := dc_160 (a := 0) (b := 7) (v := 7) (by decide +kernel)
theorem dX3_addVertical_151 : decode cX3_addVertical 151 = .ok (.iconst 0, 1) := dc_3 (by decide +kernel)
theorem dX3_addVertical_152 : decode cX3_addVertical 152 = .ok (.goto 4, 3) := dc_167 (a := 0) (b := 4) (v := 4) (by decide +kernel)
theorem dX3_addVertical_155 : decode cX3_addVertical 155 = .ok (.iload_n 3, 1) := dc_29 (by decide +kernel)
theorem dX3_addVertical_156 : decode cX3_addVertical 156 = .ok (.iload 4, 2) := dc_21 (a := 4) (by decide +kernel)
theorem dX3_addVertical_158 : decode cX3_addVertical 158 = .ok (.ldc_w 326, 3) := dc_19 (a := 1) (b := 70) (n := 326) (by decide +kernel)
theorem dX3_addVertical_161 : decode cX3_addVertical 161 = .ok (.if_icmp .ne 7, 3) := dc_160 (a := 0) (b := 7) (v := 7) (by decide +kernel)
theorem dX3_addVertical_164 : decode cX3_addVertical 164 = .ok (.iconst 0, 1) := dc_3 (by decide +kernel)
theorem dX3_addVertical_165 : decode cX3_addVertical 165 = .ok (.goto 5, 3) := dc_167 (a := 0) (b := 5) (v := 5) (by decide +kernel)
theorem dX3_addVertical_168 : decode cX3_addVertical 168 = .ok (.iload 4, 2) := dc_21 (a := 4) (by decide +kernel)
theorem dX3_addVertical_170 : decode cX3_addVertical 170 = .ok (.iconst 0, 1) := dc_3 (by decide +kernel)
theorem dX3_addVertical_171 : decode cX3_addVertical 171 = .ok (.iload_n 2, 1) := dc_28 (by decide +kernel)
theorem dX3_addVertical_172 : decode cX3_addVertical 172 = .ok (.invokevirtual 325, 3) := dc_182 (a := 1) (b := 69) (n := 325) (by decide +kernel)
theorem dX3_addVertical_175 : decode cX3_addVertical 175 = .ok (.goto 32, 3) := dc_167 (a := 0) (b := 32) (v := 32) (by decide +kernel)
theorem dX3_addVertical_178 : decode cX3_addVertical 178 = .ok (.aload_n 0, 1) := dc_42 (by decide +kernel)
theorem dX3_addVertical_179 : decode cX3_addVertical 179 = .ok (.getfield 94, 3) := dc_180 (a := 0) (b := 94) (n := 94) (by decide +kernel)
theorem dX3_addVertical_182 : decode cX3_addVertical 182 = .ok (.iconst 0, 1) := dc_3 (by decide +kernel)
theorem dX3_addVertical_183 : decode cX3_addVertical 183 = .ok (.iload_n 2, 1) := dc_28 (by decide +kernel)
theorem dX3_addVertical_184 : decode cX3_addVertical 184 = .ok (.aload_n 0, 1) := dc_42 (by decide +kernel)
theorem dX3_addVertical_185 : decode cX3_addVertical 185 = .ok (.getfield 36, 3) := dc_180 (a := 0) (b := 36) (n := 36) (by decide +kernel)
theorem dX3_addVertical_188 : decode cX3_addVertical 188 = .ok (.iload_n 2, 1) := dc_28 (by decide +kernel)
theorem dX3_addVertical_189 : decode cX3_addVertical 189 = .ok (.aaload, 1) := dc_50 (by decide +kernel)
theorem dX3_addVertical_190 : decode cX3_addVertical 190 = .ok (.getfield 327, 3) := dc_180 (a := 1) (b := 71) (n := 327) (by decide +kernel)
theorem dX3_addVertical_193 : decode cX3_addVertical 193 = .ok (.aload_n 0, 1) := dc_42 (by decide +kernel)
theorem dX3_addVertical_194 : decode cX3_addVertical 194 = .ok (.getfield 36, 3) := dc_180 (a := 0) (b := 36) (n := 36) (by decide +kernel)
theorem dX3_addVertical_197 : decode cX3_addVertical 197 = .ok (.iload_n 2, 1) := dc_28 (by decide +kernel)
theorem dX3_addVertical_198 : decode cX3_addVertical 198 = .ok (.aaload, 1) := dc_50 (by decide +kernel)
theorem dX3_addVertical_199 : decode cX3_addVertical 199 = .ok (.getfield 330, 3) := dc_180 (a := 1) (b := 74) (n := 330) (by decide +kernel)
theorem dX3_addVertical_202 : decode cX3_addVertical 202 = .ok (.iconst 0, 1) := dc_3 (by decide +kernel)
theorem dX3_addVertical_203 : decode cX3_addVertical 203 = .ok (.iload_n 3, 1) := dc_29 (by decide +kernel)
theorem dX3_addVertical_204 : decode cX3_addVertical 204 = .ok (.invokevirtual 325, 3) := dc_182 (a := 1) (b := 69) (n := 325) (by decide +kernel)
theorem dX3_addVertical_207 : decode cX3_addVertical 207 = .ok (.aload_n 0, 1) := dc_42 (by decide +kernel)
theorem dX3_addVertical_208 : decode cX3_addVertical 208 = .ok (.invokevirtual 333, 3) := dc_182 (a := 1) (b := 77) (n := 333) (by decide +kernel)
theorem dX3_addVertical_211 : decode cX3_addVertical 211 = .ok (.return_, 1) := dc_177 (by decide +kernel)
theorem GX3_194 {w : eW} {d : Nat} {Y : eY} {pc : Nat} {ls : eL} {st : List Value} {h : eH} {Q : eO → eH → Prop} {a : Nat} {x : Int32} (hf : g_I 26 h a 6 = some x) (hd : decode Y.2.1 pc = .ok (.getfield 194, 3)) (hY : Y.1.cls = RX3) (kk : wp w d Y (pc + 3) ls (.int x :: st) h Q) : wp w d Y pc ls (.ref a :: st) h Q := x_gIN (ci := 26) (k := 6) hf hd rfl (by decide) (by rw [hY]; exact q1509) kk
theorem GX3_327 {w : eW} {d : Nat} {Y : eY} {pc : Nat} {ls : eL} {st : List Value} {h : eH} {Q : eO → eH → Prop} {a : Nat} {x : Int32} (hf : g_I 41 h a 4 = some x) (hd : decode Y.2.1 pc = .ok (.getfield 327, 3)) (hY : Y.1.cls = RX3) (kk : wp w d Y (pc + 3) ls (.int x :: st) h Q) : wp w d Y pc ls (.ref a :: st) h Q := x_gIN (ci := 41) (k := 4) hf hd rfl (by decide) (by rw [hY]; exact q3521) kk
theorem GX3_330 {w : eW} {d : Nat} {Y : eY} {pc : Nat} {ls : eL} {st : List Value} {h : eH} {Q : eO → eH → Prop} {a : Nat} {x : Int32} (hf : g_I 41 h a 5 = some x) (hd : decode Y.2.1 pc = .ok (.getfield 330, 3)) (hY : Y.1.cls = RX3) (kk : wp w d Y (pc + 3) ls (.int x :: st) h Q) : wp w d Y pc ls (.ref a :: st) h Q := x_gIN (ci := 41) (k := 5) hf hd rfl (by decide) (by rw [hY]; exact q3525) kk
def fX3_addVertical_b207 (N : Nat) (l0 : Nat) (h : eH) : Option ((Unit ⊕ Nat) × eH) :=
  (k_ok 2 h l0).bind fun _ =>
  t_B (fX3_goOn N l0 h) fun x2 h3 =>
  some (.inl (), h3)
theorem pX3_addVertical_b207 {w : eW} {d : Nat} (hd : 11 ≤ d + 1) {N : Nat} {l0 : Nat} {h : eH} {q} (hf : fX3_addVertical_b207 N l0 h = some q) : wp w (d + 1) YX3_addVertical 207 [some (.ref l0), none, none, none, none, none] [] h (e_is (e_rt c_V q)) := by
  unfold fX3_addVertical_b207 at hf
  refine w_aload_n dX3_addVertical_207 rfl rfl ?_
  obtain ⟨_, b1, hf⟩ := Option.bind_eq_some_iff.mp hf
  refine x_ctV hf (e_stV (Yc := YX3_goOn) (ci := 2) (av := []) (st := []) dX3_addVertical_208 q3212 mX3_goOn rfl (k_ok_some b1).1 (k_ok_some b1).2) mX3_goOn.2.2.1 mX3_goOn.2.2.2.2.1 (Nat.le_of_ble_eq_true rfl) (Nat.le_of_ble_eq_true rfl) rfl (fun q hq => pX3_goOn (by omega) hq) (fun x2 h3 hf => ?_)
  cases hf
  exact w_vret dX3_addVertical_211 rfl rfl
def fX3_addVertical_b170 (N : Nat) (l0 : Nat) (l2 : Int32) (s0 : Nat) (s1 : Int32) (s2 : Int32) (s3 : Int32) (s4 : Int32) (h : eH) : Option ((Unit ⊕ Nat) × eH) :=
  (k_ok 26 h s0).bind fun _ =>
  (fX27_add s0 s1 s2 s3 s4 (0 : Int32) l2 h).bind fun q2 =>
  fX3_addVertical_b207 N l0 q2.2
theorem pX3_addVertical_b170 {w : eW} {d : Nat} (hd : 11 ≤ d + 1) {N : Nat} {l0 : Nat} {l2 : Int32} {s0 : Nat} {s1 : Int32} {s2 : Int32} {s3 : Int32} {s4 : Int32} {h : eH} {q} (hf : fX3_addVertical_b170 N l0 l2 s0 s1 s2 s3 s4 h = some q) : wp w (d + 1) YX3_addVertical 170 [some (.ref l0), none, some (.int l2), none, none, none] [.int s4, .int s3, .int s2, .int s1, .ref s0] h (e_is (e_rt c_V q)) := by
  unfold fX3_addVertical_b170 at hf
  refine w_iconst dX3_addVertical_170 (v := 0) (by decide) ?_
  refine w_iload_n dX3_addVertical_171 rfl rfl ?_
  obtain ⟨_, b1, hf⟩ := Option.bind_eq_some_iff.mp hf
  refine x_cnV hf (e_stV (Yc := YX27_add) (ci := 26) (av := [.int s1, .int s2, .int s3, .int s4, .int (0 : Int32), .int l2]) (st := []) dX3_addVertical_172 q3202 mX27_add rfl (k_ok_some b1).1 (k_ok_some b1).2) mX27_add.2.2.1 mX27_add.2.2.2.2.1 (Nat.le_of_ble_eq_true rfl) (Nat.le_of_ble_eq_true rfl) (fun q hq => pX27_add (by omega) hq) (fun q2 hf => ?_)
  refine w_goto 207 dX3_addVertical_175 (by decide) ?_
  exact (pX3_addVertical_b207 hd hf).to ⟨rfl, trivial⟩
def fX3_addVertical_b156 (N : Nat) (l0 : Nat) (l2 : Int32) (l4 : Int32) (s0 : Nat) (s1 : Int32) (s2 : Int32) (s3 : Int32) (h : eH) : Option ((Unit ⊕ Nat) × eH) :=
  if ¬ l4 = (-1073741824 : Int32) then
    fX3_addVertical_b170 N l0 l2 s0 s1 s2 s3 l4 h
  else
    fX3_addVertical_b170 N l0 l2 s0 s1 s2 s3 (0 : Int32) h
theorem pX3_addVertical_b156 {w : eW} {d : Nat} (hd : 11 ≤ d + 1) {N : Nat} {l0 : Nat} {l2 : Int32} {l4 : Int32} {s0 : Nat} {s1 : Int32} {s2 : Int32} {s3 : Int32} {h : eH} {q} (hf : fX3_addVertical_b156 N l0 l2 l4 s0 s1 s2 s3 h = some q) : wp w (d + 1) YX3_addVertical 156 [some (.ref l0), none, some (.int l2), none, some (.int l4), none] [.int s3, .int s2, .int s1, .ref s0] h (e_is (e_rt c_V q)) := by
  unfold fX3_addVertical_b156 at hf
  refine w_iload dX3_addVertical_156 rfl ?_
  refine w_ldc_w dX3_addVertical_158 q3211 ?_
  refine w_icmp_ne 168 dX3_addVertical_161 (by decide) (fun c1 => ?_) (fun c1 => ?_)
  · replace hf := (if_pos (show ¬ l4 = (-1073741824 : Int32) from c1)).symm.trans hf
    refine w_iload dX3_addVertical_168 rfl ?_
    exact (pX3_addVertical_b170 hd hf).to ⟨rfl, rfl, trivial⟩
  · replace hf := (if_neg (show ¬ (¬ l4 = (-1073741824 : Int32)) from (fun z => z c1))).symm.trans hf
    refine w_iconst dX3_addVertical_164 (v := 0) (by decide) ?_
    refine w_goto 170 dX3_addVertical_165 (by decide) ?_
    exact (pX3_addVertical_b170 hd hf).to ⟨rfl, rfl, trivial⟩
def fX3_addVertical_b47 (N : Nat) (l0 : Nat) (l1 : Int32) (l2 : Int32) (l3 : Int32) (l4 : Int32) (l5 : Int32) (s0 : Nat) (s1 : Int32) (h : eH) : Option ((Unit ⊕ Nat) × eH) :=
  (k_ok 3 h s0).bind fun _ =>
  t_B (fX4_want s0 s1 (2 : Int32) h) fun x2 h3 =>
  if l1 = (1 : Int32) then
    (g_A 2 h3 l0 12).bind fun a5 =>
    if ¬ l3 = (-1073741824 : Int32) then
      fX3_addVertical_b156 N l0 l2 l4 a5 (0 : Int32) (-1 : Int32) l3 h3
    else
      fX3_addVertical_b156 N l0 l2 l4 a5 (0 : Int32) (-1 : Int32) (0 : Int32) h3
  else
  if l1 = (2 : Int32) then
    (g_A 2 h3 l0 12).bind fun a9 =>
    (k_ok 26 h3 a9).bind fun _ =>
    (fX27_add a9 (1 : Int32) l2 l3 l5 l4 (0 : Int32) h3).bind fun q12 =>
    fX3_addVertical_b207 N l0 q12.2
  else
  if l1 = (3 : Int32) then
    (g_A 2 h3 l0 12).bind fun a14 =>
    (k_ok 26 h3 a14).bind fun _ =>
    (fX27_add a14 (2 : Int32) l2 (0 : Int32) (0 : Int32) (0 : Int32) (0 : Int32) h3).bind fun q17 =>
    fX3_addVertical_b207 N l0 q17.2
  else
  if l1 = (4 : Int32) then
    (g_A 2 h3 l0 12).bind fun a19 =>
    (g_A 2 h3 l0 3).bind fun a21 =>
    (r_A 104 h3 a21 l2).bind fun a23 =>
    (g_I 41 h3 a23 4).bind fun x25 =>
    (g_A 2 h3 l0 3).bind fun a27 =>
    (r_A 104 h3 a27 l2).bind fun a29 =>
    (g_I 41 h3 a29 5).bind fun x31 =>
    (k_ok 26 h3 a19).bind fun _ =>
    (fX27_add a19 (0 : Int32) l2 x25 x31 (0 : Int32) l3 h3).bind fun q34 =>
    fX3_addVertical_b207 N l0 q34.2
  else
  if l1 = (5 : Int32) then
    (g_A 2 h3 l0 12).bind fun a36 =>
    (k_ok 26 h3 a36).bind fun _ =>
    (fX27_add a36 (3 : Int32) l2 (0 : Int32) (0 : Int32) (0 : Int32) (0 : Int32) h3).bind fun q39 =>
    fX3_addVertical_b207 N l0 q39.2
  else
  (g_A 2 h3 l0 12).bind fun a40 =>
  (g_A 2 h3 l0 3).bind fun a42 =>
  (r_A 104 h3 a42 l2).bind fun a44 =>
  (g_I 41 h3 a44 4).bind fun x46 =>
  (g_A 2 h3 l0 3).bind fun a48 =>
  (r_A 104 h3 a48 l2).bind fun a50 =>
  (g_I 41 h3 a50 5).bind fun x52 =>
  (k_ok 26 h3 a40).bind fun _ =>
  (fX27_add a40 (0 : Int32) l2 x46 x52 (0 : Int32) l3 h3).bind fun q55 =>
  fX3_addVertical_b207 N l0 q55.2
theorem pX3_addVertical_b47 {w : eW} {d : Nat} (hd : 11 ≤ d + 1) {N : Nat} {l0 : Nat} {l1 : Int32} {l2 : Int32} {l3 : Int32} {l4 : Int32} {l5 : Int32} {s0 : Nat} {s1 : Int32} {h : eH} {q} (hf : fX3_addVertical_b47 N l0 l1 l2 l3 l4 l5 s0 s1 h = some q) : wp w (d + 1) YX3_addVertical 47 [some (.ref l0), some (.int l1), some (.int l2), some (.int l3), some (.int l4), some (.int l5)] [.int s1, .ref s0] h (e_is (e_rt c_V q)) := by
  unfold fX3_addVertical_b47 at hf
  refine w_iconst dX3_addVertical_47 (v := 2) (by decide) ?_
  obtain ⟨_, b1, hf⟩ := Option.bind_eq_some_iff.mp hf
  refine x_ctV hf (e_stV (Yc := YX4_want) (ci := 3) (av := [.int s1, .int (2 : Int32)]) (st := []) dX3_addVertical_48 q2846 mX4_want rfl (k_ok_some b1).1 (k_ok_some b1).2) mX4_want.2.2.1 mX4_want.2.2.2.2.1 (Nat.le_of_ble_eq_true rfl) (Nat.le_of_ble_eq_true rfl) rfl (fun q hq => pX4_want (by omega) hq) (fun x2 h3 hf => ?_)
  refine w_iload_n dX3_addVertical_51 rfl rfl ?_
  by_cases c4 : l1 = (1 : Int32)
  · replace hf := (if_pos c4).symm.trans hf
    refine w_tableIn 138 dX3_addVertical_52 (by rw [c4]; decide) (by rw [c4]; decide) (by rw [c4]; rfl) (by decide) ?_
    refine w_aload_n dX3_addVertical_138 rfl rfl ?_
    obtain ⟨a5, b6, hf⟩ := Option.bind_eq_some_iff.mp hf
    refine GX3_94 b6 dX3_addVertical_139 rfl ?_
    refine w_iconst dX3_addVertical_142 (v := 0) (by decide) ?_
    refine w_iconst dX3_addVertical_143 (v := -1) (by decide) ?_
    refine w_iload_n dX3_addVertical_144 rfl rfl ?_
    refine w_ldc_w dX3_addVertical_145 q3211 ?_
    refine w_icmp_ne 155 dX3_addVertical_148 (by decide) (fun c7 => ?_) (fun c7 => ?_)
    · replace hf := (if_pos (show ¬ l3 = (-1073741824 : Int32) from c7)).symm.trans hf
      refine w_iload_n dX3_addVertical_155 rfl rfl ?_
      exact (pX3_addVertical_b156 hd hf).to ⟨rfl, rfl, rfl, trivial⟩
    · replace hf := (if_neg (show ¬ (¬ l3 = (-1073741824 : Int32)) from (fun z => z c7))).symm.trans hf
      refine w_iconst dX3_addVertical_151 (v := 0) (by decide) ?_
      refine w_goto 156 dX3_addVertical_152 (by decide) ?_
      exact (pX3_addVertical_b156 hd hf).to ⟨rfl, rfl, rfl, trivial⟩
  replace hf := (if_neg c4).symm.trans hf
  by_cases c8 : l1 = (2 : Int32)
  · replace hf := (if_pos c8).symm.trans hf
    refine w_tableIn 88 dX3_addVertical_52 (by rw [c8]; decide) (by rw [c8]; decide) (by rw [c8]; rfl) (by decide) ?_
    refine w_aload_n dX3_addVertical_88 rfl rfl ?_
    obtain ⟨a9, b10, hf⟩ := Option.bind_eq_some_iff.mp hf
    refine GX3_94 b10 dX3_addVertical_89 rfl ?_
    refine w_iconst dX3_addVertical_92 (v := 1) (by decide) ?_
    refine w_iload_n dX3_addVertical_93 rfl rfl ?_
    refine w_iload_n dX3_addVertical_94 rfl rfl ?_
    refine w_iload dX3_addVertical_95 rfl ?_
    refine w_iload dX3_addVertical_97 rfl ?_
    refine w_iconst dX3_addVertical_99 (v := 0) (by decide) ?_
    obtain ⟨_, b11, hf⟩ := Option.bind_eq_some_iff.mp hf
    refine x_cnV hf (e_stV (Yc := YX27_add) (ci := 26) (av := [.int (1 : Int32), .int l2, .int l3, .int l5, .int l4, .int (0 : Int32)]) (st := []) dX3_addVertical_100 q3202 mX27_add rfl (k_ok_some b11).1 (k_ok_some b11).2) mX27_add.2.2.1 mX27_add.2.2.2.2.1 (Nat.le_of_ble_eq_true rfl) (Nat.le_of_ble_eq_true rfl) (fun q hq => pX27_add (by omega) hq) (fun q12 hf => ?_)
    refine w_goto 207 dX3_addVertical_103 (by decide) ?_
    exact (pX3_addVertical_b207 hd hf).to ⟨rfl, trivial⟩
  replace hf := (if_neg c8).symm.trans hf
  by_cases c13 : l1 = (3 : Int32)
  · replace hf := (if_pos c13).symm.trans hf
    refine w_tableIn 106 dX3_addVertical_52 (by rw [c13]; decide) (by rw [c13]; decide) (by rw [c13]; rfl) (by decide) ?_
    refine w_aload_n dX3_addVertical_106 rfl rfl ?_
    obtain ⟨a14, b15, hf⟩ := Option.bind_eq_some_iff.mp hf
    refine GX3_94 b15 dX3_addVertical_107 rfl ?_
    refine w_iconst dX3_addVertical_110 (v := 2) (by decide) ?_
    refine w_iload_n dX3_addVertical_111 rfl rfl ?_
    refine w_iconst dX3_addVertical_112 (v := 0) (by decide) ?_
    refine w_iconst dX3_addVertical_113 (v := 0) (by decide) ?_
    refine w_iconst dX3_addVertical_114 (v := 0) (by decide) ?_
    refine w_iconst dX3_addVertical_115 (v := 0) (by decide) ?_
    obtain ⟨_, b16, hf⟩ := Option.bind_eq_some_iff.mp hf
    refine x_cnV hf (e_stV (Yc := YX27_add) (ci := 26) (av := [.int (2 : Int32), .int l2, .int (0 : Int32), .int (0 : Int32), .int (0 : Int32), .int (0 : Int32)]) (st := []) dX3_addVertical_116 q3202 mX27_add rfl (k_ok_some b16).1 (k_ok_some b16).2) mX27_add.2.2.1 mX27_add.2.2.2.2.1 (Nat.le_of_ble_eq_true rfl) (Nat.le_of_ble_eq_true rfl) (fun q hq => pX27_add (by omega) hq) (fun q17 hf => ?_)
    refine w_goto 207 dX3_addVertical_119 (by decide) ?_
    exact (pX3_addVertical_b207 hd hf).to ⟨rfl, trivial⟩
  replace hf := (if_neg c13).symm.trans hf
  by_cases c18 : l1 = (4 : Int32)
  · replace hf := (if_pos c18).symm.trans hf
    refine w_tableIn 178 dX3_addVertical_52 (by rw [c18]; decide) (by rw [c18]; decide) (by rw [c18]; rfl) (by decide) ?_
    refine w_aload_n dX3_addVertical_178 rfl rfl ?_
    obtain ⟨a19, b20, hf⟩ := Option.bind_eq_some_iff.mp hf
    refine GX3_94 b20 dX3_addVertical_179 rfl ?_
    refine w_iconst dX3_addVertical_182 (v := 0) (by decide) ?_
    refine w_iload_n dX3_addVertical_183 rfl rfl ?_
    refine w_aload_n dX3_addVertical_184 rfl rfl ?_
    obtain ⟨a21, b22, hf⟩ := Option.bind_eq_some_iff.mp hf
    refine GX3_36 b22 dX3_addVertical_185 rfl ?_
    refine w_iload_n dX3_addVertical_188 rfl rfl ?_
    obtain ⟨a23, b24, hf⟩ := Option.bind_eq_some_iff.mp hf
    refine x_rA (c := 104) (by decide) b24 dX3_addVertical_189 ?_
    obtain ⟨x25, b26, hf⟩ := Option.bind_eq_some_iff.mp hf
    refine GX3_327 b26 dX3_addVertical_190 rfl ?_
    refine w_aload_n dX3_addVertical_193 rfl rfl ?_
    obtain ⟨a27, b28, hf⟩ := Option.bind_eq_some_iff.mp hf
    refine GX3_36 b28 dX3_addVertical_194 rfl ?_
    refine w_iload_n dX3_addVertical_197 rfl rfl ?_
    obtain ⟨a29, b30, hf⟩ := Option.bind_eq_some_iff.mp hf
    refine x_rA (c := 104) (by decide) b30 dX3_addVertical_198 ?_
    obtain ⟨x31, b32, hf⟩ := Option.bind_eq_some_iff.mp hf
    refine GX3_330 b32 dX3_addVertical_199 rfl ?_
    refine w_iconst dX3_addVertical_202 (v := 0) (by decide) ?_
    refine w_iload_n dX3_addVertical_203 rfl rfl ?_
    obtain ⟨_, b33, hf⟩ := Option.bind_eq_some_iff.mp hf
    refine x_cnV hf (e_stV (Yc := YX27_add) (ci := 26) (av := [.int (0 : Int32), .int l2, .int x25, .int x31, .int (0 : Int32), .int l3]) (st := []) dX3_addVertical_204 q3202 mX27_add rfl (k_ok_some b33).1 (k_ok_some b33).2) mX27_add.2.2.1 mX27_add.2.2.2.2.1 (Nat.le_of_ble_eq_true rfl) (Nat.le_of_ble_eq_true rfl) (fun q hq => pX27_add (by omega) hq) (fun q34 hf => ?_)
    exact (pX3_addVertical_b207 hd hf).to ⟨rfl, trivial⟩
  replace hf := (if_neg c18).symm.trans hf
  by_cases c35 : l1 = (5 : Int32)
  · replace hf := (if_pos c35).symm.trans hf
    refine w_tableIn 122 dX3_addVertical_52 (by rw [c35]; decide) (by rw [c35]; decide) (by rw [c35]; rfl) (by decide) ?_
    refine w_aload_n dX3_addVertical_122 rfl rfl ?_
    obtain ⟨a36, b37, hf⟩ := Option.bind_eq_some_iff.mp hf
    refine GX3_94 b37 dX3_addVertical_123 rfl ?_
    refine w_iconst dX3_addVertical_126 (v := 3) (by decide) ?_
    refine w_iload_n dX3_addVertical_127 rfl rfl ?_
    refine w_iconst dX3_addVertical_128 (v := 0) (by decide) ?_
    refine w_iconst dX3_addVertical_129 (v := 0) (by decide) ?_
    refine w_iconst dX3_addVertical_130 (v := 0) (by decide) ?_
    refine w_iconst dX3_addVertical_131 (v := 0) (by decide) ?_
    obtain ⟨_, b38, hf⟩ := Option.bind_eq_some_iff.mp hf
    refine x_cnV hf (e_stV (Yc := YX27_add) (ci := 26) (av := [.int (3 : Int32), .int l2, .int (0 : Int32), .int (0 : Int32), .int (0 : Int32), .int (0 : Int32)]) (st := []) dX3_addVertical_132 q3202 mX27_add rfl (k_ok_some b38).1 (k_ok_some b38).2) mX27_add.2.2.1 mX27_add.2.2.2.2.1 (Nat.le_of_ble_eq_true rfl) (Nat.le_of_ble_eq_true rfl) (fun q hq => pX27_add (by omega) hq) (fun q39 hf => ?_)
    refine w_goto 207 dX3_addVertical_135 (by decide) ?_
    exact (pX3_addVertical_b207 hd hf).to ⟨rfl, trivial⟩
  replace hf := (if_neg c35).symm.trans hf
  refine w_tableOut 178 dX3_addVertical_52 (by have n0 := sw_ne c4 (by decide : (1 : Int32).toInt = 1); have n1 := sw_ne c8 (by decide : (2 : Int32).toInt = 2); have n2 := sw_ne c13 (by decide : (3 : Int32).toInt = 3); have n3 := sw_ne c18 (by decide : (4 : Int32).toInt = 4); have n4 := sw_ne c35 (by decide : (5 : Int32).toInt = 5); omega) (by decide) ?_
  refine w_aload_n dX3_addVertical_178 rfl rfl ?_
  obtain ⟨a40, b41, hf⟩ := Option.bind_eq_some_iff.mp hf
  refine GX3_94 b41 dX3_addVertical_179 rfl ?_
  refine w_iconst dX3_addVertical_182 (v := 0) (by decide) ?_
  refine w_iload_n dX3_addVertical_183 rfl rfl ?_
  refine w_aload_n dX3_addVertical_184 rfl rfl ?_
  obtain ⟨a42, b43, hf⟩ := Option.bind_eq_some_iff.mp hf
  refine GX3_36 b43 dX3_addVertical_185 rfl ?_
  refine w_iload_n dX3_addVertical_188 rfl rfl ?_
  obtain ⟨a44, b45, hf⟩ := Option.bind_eq_some_iff.mp hf
  refine x_rA (c := 104) (by decide) b45 dX3_addVertical_189 ?_
  obtain ⟨x46, b47, hf⟩ := Option.bind_eq_some_iff.mp hf
  refine GX3_327 b47 dX3_addVertical_190 rfl ?_
  refine w_aload_n dX3_addVertical_193 rfl rfl ?_
  obtain ⟨a48, b49, hf⟩ := Option.bind_eq_some_iff.mp hf
  refine GX3_36 b49 dX3_addVertical_194 rfl ?_
  refine w_iload_n dX3_addVertical_197 rfl rfl ?_
  obtain ⟨a50, b51, hf⟩ := Option.bind_eq_some_iff.mp hf
  refine x_rA (c := 104) (by decide) b51 dX3_addVertical_198 ?_
  obtain ⟨x52, b53, hf⟩ := Option.bind_eq_some_iff.mp hf
  refine GX3_330 b53 dX3_addVertical_199 rfl ?_
  refine w_iconst dX3_addVertical_202 (v := 0) (by decide) ?_
  refine w_iload_n dX3_addVertical_203 rfl rfl ?_
  obtain ⟨_, b54, hf⟩ := Option.bind_eq_some_iff.mp hf
  refine x_cnV hf (e_stV (Yc := YX27_add) (ci := 26) (av := [.int (0 : Int32), .int l2, .int x46, .int x52, .int (0 : Int32), .int l3]) (st := []) dX3_addVertical_204 q3202 mX27_add rfl (k_ok_some b54).1 (k_ok_some b54).2) mX27_add.2.2.1 mX27_add.2.2.2.2.1 (Nat.le_of_ble_eq_true rfl) (Nat.le_of_ble_eq_true rfl) (fun q hq => pX27_add (by omega) hq) (fun q55 hf => ?_)
  exact (pX3_addVertical_b207 hd hf).to ⟨rfl, trivial⟩
def fX3_addVertical (N : Nat) (this : Nat) (p0 : Int32) (p1 : Int32) (p2 : Int32) (p3 : Int32) (p4 : Int32) (h : eH) : Option ((Unit ⊕ Nat) × eH) :=
  (g_A 2 h this 19).bind fun a1 =>
  (g_I 2 h this 27).bind fun x3 =>
  (r_I 100 h a1 x3).bind fun x5 =>
  if x5 = 0 then
    (g_A 2 h this 0).bind fun a8 =>
    (g_A 2 h this 12).bind fun a10 =>
    (g_I 26 h a10 6).bind fun x12 =>
    if (10000 : Int32) ≤ x12 then
      fX3_addVertical_b47 N this p0 p1 p2 p3 p4 a8 (0 : Int32) h
    else
      fX3_addVertical_b47 N this p0 p1 p2 p3 p4 a8 (1 : Int32) h
  else
    (k_ok 2 h this).bind fun _ =>
    t_B (fX3_put this p0 p1 p2 p3 p4 (0 : Int32) h) fun x16 h17 =>
    some (.inl (), h17)
theorem pX3_addVertical {w : eW} {d : Nat} (hd : 11 ≤ d) {N : Nat} {this : Nat} {p0 : Int32} {p1 : Int32} {p2 : Int32} {p3 : Int32} {p4 : Int32} {h : eH} {q} (hf : fX3_addVertical N this p0 p1 p2 p3 p4 h = some q) : wm w d YX3_addVertical [.ref this, .int p0, .int p1, .int p2, .int p3, .int p4] h (e_is (e_rt c_V q)) := by
  obtain ⟨d, rfl⟩ : ∃ e, d = e + 1 := ⟨d - 1, by omega⟩
  show wp w (d + 1) YX3_addVertical 0 [some (.ref this), some (.int p0), some (.int p1), some (.int p2), some (.int p3), some (.int p4)] [] h _
  unfold fX3_addVertical at hf
  refine w_aload_n dX3_addVertical_0 rfl rfl ?_
  obtain ⟨a1, b2, hf⟩ := Option.bind_eq_some_iff.mp hf
  refine GX3_136 b2 dX3_addVertical_1 rfl ?_
  refine w_aload_n dX3_addVertical_4 rfl rfl ?_
  obtain ⟨x3, b4, hf⟩ := Option.bind_eq_some_iff.mp hf
  refine GX3_211 b4 dX3_addVertical_5 rfl ?_
  obtain ⟨x5, b6, hf⟩ := Option.bind_eq_some_iff.mp hf
  refine x_rI b6 dX3_addVertical_8 ?_
  refine w_if_eq 25 dX3_addVertical_9 (by decide) (fun c7 => ?_) (fun c7 => ?_)
  · replace hf := (if_pos (show x5 = 0 from c7)).symm.trans hf
    refine w_aload_n dX3_addVertical_25 rfl rfl ?_
    obtain ⟨a8, b9, hf⟩ := Option.bind_eq_some_iff.mp hf
    refine GX3_14 b9 dX3_addVertical_26 rfl ?_
    refine w_aload_n dX3_addVertical_29 rfl rfl ?_
    obtain ⟨a10, b11, hf⟩ := Option.bind_eq_some_iff.mp hf
    refine GX3_94 b11 dX3_addVertical_30 rfl ?_
    obtain ⟨x12, b13, hf⟩ := Option.bind_eq_some_iff.mp hf
    refine GX3_194 b13 dX3_addVertical_33 rfl ?_
    refine w_sipush dX3_addVertical_36 (v := 10000) (by decide) ?_
    refine w_icmp_ge 46 dX3_addVertical_39 (by decide) (fun c14 => ?_) (fun c14 => ?_)
    · replace hf := (if_pos (show (10000 : Int32) ≤ x12 from c14)).symm.trans hf
      refine w_iconst dX3_addVertical_46 (v := 0) (by decide) ?_
      exact (pX3_addVertical_b47 hd hf).to ⟨rfl, rfl, rfl, rfl, rfl, rfl, trivial⟩
    · replace hf := (if_neg (show ¬ ((10000 : Int32) ≤ x12) from c14)).symm.trans hf
      refine w_iconst dX3_addVertical_42 (v := 1) (by decide) ?_
      refine w_goto 47 dX3_addVertical_43 (by decide) ?_
      exact (pX3_addVertical_b47 hd hf).to ⟨rfl, rfl, rfl, rfl, rfl, rfl, trivial⟩
  · replace hf := (if_neg (show ¬ (x5 = 0) from c7)).symm.trans hf
    refine w_aload_n dX3_addVertical_12 rfl rfl ?_
    refine w_iload_n dX3_addVertical_13 rfl rfl ?_
    refine w_iload_n dX3_addVertical_14 rfl rfl ?_
    refine w_iload_n dX3_addVertical_15 rfl rfl ?_
    refine w_iload dX3_addVertical_16 rfl ?_
    refine w_iload dX3_addVertical_18 rfl ?_
    refine w_iconst dX3_addVertical_20 (v := 0) (by decide) ?_
    obtain ⟨_, b15, hf⟩ := Option.bind_eq_some_iff.mp hf
    refine x_ctV hf (e_stV (Yc := YX3_put) (ci := 2) (av := [.int p0, .int p1, .int p2, .int p3, .int p4, .int (0 : Int32)]) (st := []) dX3_addVertical_21 q3177 mX3_put rfl (k_ok_some b15).1 (k_ok_some b15).2) mX3_put.2.2.1 mX3_put.2.2.2.2.1 (Nat.le_of_ble_eq_true rfl) (Nat.le_of_ble_eq_true rfl) rfl (fun q hq => pX3_put (by omega) hq) (fun x16 h17 hf => ?_)
    cases hf
    exact w_vret dX3_addVertical_24 rfl rfl
abbrev cX3_addGlue : ByteArray := prog_26_method_12_code
def yX3_addGlue : MethodName := ⟨RX3, "addGlue", "(I)V"⟩
def YX3_addGlue : eY := (yX3_addGlue, cX3_addGlue, 3, none, [])
theorem mX3_addGlue : e_mv YX3_addGlue RX3 1 := ⟨q3196, qs117, q3197, by decide, by decide +kernel, (e_sig (by decide +kernel))⟩
theorem dX3_addGlue_0 : decode cX3_addGlue 0 = .ok (.aload_n 0, 1) := dc_42 (by decide +kernel)
theorem dX3_addGlue_1 : decode cX3_addGlue 1 = .ok (.getfield 53, 3) := dc_180 (a := 0) (b := 53) (n := 53) (by decide +kernel)
theorem dX3_addGlue_4 : decode cX3_addGlue 4 = .ok (.getfield 311, 3) := dc_180 (a := 1) (b := 55) (n := 311) (by decide +kernel)
theorem dX3_addGlue_7 : decode cX3_addGlue 7 = .ok (.astore_n 2, 1) := dc_77 (by decide +kernel)
theorem dX3_addGlue_8 : decode cX3_addGlue 8 = .ok (.aload_n 0, 1) := dc_42 (by decide +kernel)
theorem dX3_addGlue_9 : decode cX3_addGlue 9 = .ok (.iconst 2, 1) := dc_5 (by decide +kernel)
theorem dX3_addGlue_10 : decode cX3_addGlue 10 = .ok (.aload_n 2, 1) := dc_44 (by decide +kernel)
theorem dX3_addGlue_11 : decode cX3_addGlue 11 = .ok (.iload_n 1, 1) := dc_27 (by decide +kernel)
theorem dX3_addGlue_12 : decode cX3_addGlue 12 = .ok (.iaload, 1) := dc_46 (by decide +kernel)
theorem dX3_addGlue_13 : decode cX3_addGlue 13 = .ok (.aload_n 2, 1) := dc_44 (by decide +kernel)
theorem dX3_addGlue_14 : decode cX3_addGlue 14 = .ok (.iload_n 1, 1) := dc_27 (by decide +kernel)
theorem dX3_addGlue_15 : decode cX3_addGlue 15 = .ok (.iconst 1, 1) := dc_4 (by decide +kernel)
theorem dX3_addGlue_16 : decode cX3_addGlue 16 = .ok (.iadd, 1) := dc_96 (by decide +kernel)
theorem dX3_addGlue_17 : decode cX3_addGlue 17 = .ok (.iaload, 1) := dc_46 (by decide +kernel)
theorem dX3_addGlue_18 : decode cX3_addGlue 18 = .ok (.aload_n 2, 1) := dc_44 (by decide +kernel)
theorem dX3_addGlue_19 : decode cX3_addGlue 19 = .ok (.iload_n 1, 1) := dc_27 (by decide +kernel)
theorem dX3_addGlue_20 : decode cX3_addGlue 20 = .ok (.iconst 2, 1) := dc_5 (by decide +kernel)
theorem dX3_addGlue_21 : decode cX3_addGlue 21 = .ok (.iadd, 1) := dc_96 (by decide +kernel)
theorem dX3_addGlue_22 : decode cX3_addGlue 22 = .ok (.iaload, 1) := dc_46 (by decide +kernel)
theorem dX3_addGlue_23 : decode cX3_addGlue 23 = .ok (.aload_n 2, 1) := dc_44 (by decide +kernel)
theorem dX3_addGlue_24 : decode cX3_addGlue 24 = .ok (.iload_n 1, 1) := dc_27 (by decide +kernel)
theorem dX3_addGlue_25 : decode cX3_addGlue 25 = .ok (.iconst 3, 1) := dc_6 (by decide +kernel)
theorem dX3_addGlue_26 : decode cX3_addGlue 26 = .ok (.iadd, 1) := dc_96 (by decide +kernel)
theorem dX3_addGlue_27 : decode cX3_addGlue 27 = .ok (.iaload, 1) := dc_46 (by decide +kernel)
theorem dX3_addGlue_28 : decode cX3_addGlue 28 = .ok (.invokevirtual 294, 3) := dc_182 (a := 1) (b := 38) (n := 294) (by decide +kernel)
theorem dX3_addGlue_31 : decode cX3_addGlue 31 = .ok (.return_, 1) := dc_177 (by decide +kernel)
def fX3_addGlue (N : Nat) (this : Nat) (p0 : Int32) (h : eH) : Option ((Unit ⊕ Nat) × eH) :=
  (g_A 2 h this 6).bind fun a1 =>
  (g_A 8 h a1 3).bind fun a3 =>
  (r_I 100 h a3 p0).bind fun x5 =>
  (r_I 100 h a3 (p0 + (1 : Int32))).bind fun x7 =>
  (r_I 100 h a3 (p0 + (2 : Int32))).bind fun x9 =>
  (r_I 100 h a3 (p0 + (3 : Int32))).bind fun x11 =>
  (k_ok 2 h this).bind fun _ =>
  t_B (fX3_addVertical N this (2 : Int32) x5 x7 x9 x11 h) fun x14 h15 =>
  some (.inl (), h15)
theorem pX3_addGlue {w : eW} {d : Nat} (hd : 12 ≤ d) {N : Nat} {this : Nat} {p0 : Int32} {h : eH} {q} (hf : fX3_addGlue N this p0 h = some q) : wm w d YX3_addGlue [.ref this, .int p0] h (e_is (e_rt c_V q)) := by
  obtain ⟨d, rfl⟩ : ∃ e, d = e + 1 := ⟨d - 1, by omega⟩
  show wp w (d + 1) YX3_addGlue 0 [some (.ref this), some (.int p0), none] [] h _
  unfold fX3_addGlue at hf
  refine w_aload_n dX3_addGlue_0 rfl rfl ?_
  obtain ⟨a1, b2, hf⟩ := Option.bind_eq_some_iff.mp hf
  refine GX3_53 b2 dX3_addGlue_1 rfl ?_
  obtain ⟨a3, b4, hf⟩ := Option.bind_eq_some_iff.mp hf
  refine GX3_311 b4 dX3_addGlue_4 rfl ?_
  refine w_astore_n dX3_addGlue_7 rfl (by decide) (ls' := [some (.ref this), some (.int p0), some (.ref a3)]) rfl ?_
  refine w_aload_n dX3_addGlue_8 rfl rfl ?_
  refine w_iconst dX3_addGlue_9 (v := 2) (by decide) ?_
  refine w_aload_n dX3_addGlue_10 rfl rfl ?_
  refine w_iload_n dX3_addGlue_11 rfl rfl ?_
  obtain ⟨x5, b6, hf⟩ := Option.bind_eq_some_iff.mp hf
  refine x_rI b6 dX3_addGlue_12 ?_
  refine w_aload_n dX3_addGlue_13 rfl rfl ?_
  refine w_iload_n dX3_addGlue_14 rfl rfl ?_
  refine w_iconst dX3_addGlue_15 (v := 1) (by decide) ?_
  refine w_iadd dX3_addGlue_16 ?_
  obtain ⟨x7, b8, hf⟩ := Option.bind_eq_some_iff.mp hf
  refine x_rI b8 dX3_addGlue_17 ?_
  refine w_aload_n dX3_addGlue_18 rfl rfl ?_
  refine w_iload_n dX3_addGlue_19 rfl rfl ?_
  refine w_iconst dX3_addGlue_20 (v := 2) (by decide) ?_
  refine w_iadd dX3_addGlue_21 ?_
  obtain ⟨x9, b10, hf⟩ := Option.bind_eq_some_iff.mp hf
  refine x_rI b10 dX3_addGlue_22 ?_
  refine w_aload_n dX3_addGlue_23 rfl rfl ?_
  refine w_iload_n dX3_addGlue_24 rfl rfl ?_
  refine w_iconst dX3_addGlue_25 (v := 3) (by decide) ?_
  refine w_iadd dX3_addGlue_26 ?_
  obtain ⟨x11, b12, hf⟩ := Option.bind_eq_some_iff.mp hf
  refine x_rI b12 dX3_addGlue_27 ?_
  obtain ⟨_, b13, hf⟩ := Option.bind_eq_some_iff.mp hf
  refine x_ctV hf (e_stV (Yc := YX3_addVertical) (ci := 2) (av := [.int (2 : Int32), .int x5, .int x7, .int x9, .int x11]) (st := []) dX3_addGlue_28 q3198 mX3_addVertical rfl (k_ok_some b13).1 (k_ok_some b13).2) mX3_addVertical.2.2.1 mX3_addVertical.2.2.2.2.1 (Nat.le_of_ble_eq_true rfl) (Nat.le_of_ble_eq_true rfl) rfl (fun q hq => pX3_addVertical (by omega) hq) (fun x14 h15 hf => ?_)
  cases hf
  exact w_vret dX3_addGlue_31 rfl rfl
abbrev cX3_push : ByteArray := prog_26_method_6_code
def yX3_push : MethodName := ⟨RX3, "push", "(I)V"⟩
def YX3_push : eY := (yX3_push, cX3_push, 2, none, [])
theorem mX3_push : e_mv YX3_push RX3 1 := ⟨q3480, qs143, q3481, by decide, by decide +kernel, (e_sig (by decide +kernel))⟩
theorem dX3_push_0 : decode cX3_push 0 = .ok (.aload_n 0, 1) := dc_42 (by decide +kernel)
theorem dX3_push_1 : decode cX3_push 1 = .ok (.dup, 1) := dc_89 (by decide +kernel)
theorem dX3_push_2 : decode cX3_push 2 = .ok (.getfield 211, 3) := dc_180 (a := 0) (b := 211) (n := 211) (by decide +kernel)
theorem dX3_push_5 : decode cX3_push 5 = .ok (.iconst 1, 1) := dc_4 (by decide +kernel)
theorem dX3_push_6 : decode cX3_push 6 = .ok (.iadd, 1) := dc_96 (by decide +kernel)
theorem dX3_push_7 : decode cX3_push 7 = .ok (.putfield 211, 3) := dc_181 (a := 0) (b := 211) (n := 211) (by decide +kernel)
theorem dX3_push_10 : decode cX3_push 10 = .ok (.aload_n 0, 1) := dc_42 (by decide +kernel)
theorem dX3_push_11 : decode cX3_push 11 = .ok (.getfield 136, 3) := dc_180 (a := 0) (b := 136) (n := 136) (by decide +kernel)
theorem dX3_push_14 : decode cX3_push 14 = .ok (.aload_n 0, 1) := dc_42 (by decide +kernel)
theorem dX3_push_15 : decode cX3_push 15 = .ok (.getfield 211, 3) := dc_180 (a := 0) (b := 211) (n := 211) (by decide +kernel)
theorem dX3_push_18 : decode cX3_push 18 = .ok (.iload_n 1, 1) := dc_27 (by decide +kernel)
theorem dX3_push_19 : decode cX3_push 19 = .ok (.iastore, 1) := dc_79 (by decide +kernel)
theorem dX3_push_20 : decode cX3_push 20 = .ok (.aload_n 0, 1) := dc_42 (by decide +kernel)
theorem dX3_push_21 : decode cX3_push 21 = .ok (.getfield 140, 3) := dc_180 (a := 0) (b := 140) (n := 140) (by decide +kernel)
theorem dX3_push_24 : decode cX3_push 24 = .ok (.aload_n 0, 1) := dc_42 (by decide +kernel)
theorem dX3_push_25 : decode cX3_push 25 = .ok (.getfield 211, 3) := dc_180 (a := 0) (b := 211) (n := 211) (by decide +kernel)
theorem dX3_push_28 : decode cX3_push 28 = .ok (.aload_n 0, 1) := dc_42 (by decide +kernel)
theorem dX3_push_29 : decode cX3_push 29 = .ok (.getfield 126, 3) := dc_180 (a := 0) (b := 126) (n := 126) (by decide +kernel)
theorem dX3_push_32 : decode cX3_push 32 = .ok (.getfield 210, 3) := dc_180 (a := 0) (b := 210) (n := 210) (by decide +kernel)
theorem dX3_push_35 : decode cX3_push 35 = .ok (.iastore, 1) := dc_79 (by decide +kernel)
theorem dX3_push_36 : decode cX3_push 36 = .ok (.aload_n 0, 1) := dc_42 (by decide +kernel)
theorem dX3_push_37 : decode cX3_push 37 = .ok (.getfield 143, 3) := dc_180 (a := 0) (b := 143) (n := 143) (by decide +kernel)
theorem dX3_push_40 : decode cX3_push 40 = .ok (.aload_n 0, 1) := dc_42 (by decide +kernel)
theorem dX3_push_41 : decode cX3_push 41 = .ok (.getfield 211, 3) := dc_180 (a := 0) (b := 211) (n := 211) (by decide +kernel)
theorem dX3_push_44 : decode cX3_push 44 = .ok (.ldc 214, 2) := dc_18 (a := 214) (by decide +kernel)
theorem dX3_push_46 : decode cX3_push 46 = .ok (.iastore, 1) := dc_79 (by decide +kernel)
theorem dX3_push_47 : decode cX3_push 47 = .ok (.aload_n 0, 1) := dc_42 (by decide +kernel)
theorem dX3_push_48 : decode cX3_push 48 = .ok (.getfield 45, 3) := dc_180 (a := 0) (b := 45) (n := 45) (by decide +kernel)
theorem dX3_push_51 : decode cX3_push 51 = .ok (.aload_n 0, 1) := dc_42 (by decide +kernel)
theorem dX3_push_52 : decode cX3_push 52 = .ok (.invokevirtual 298, 3) := dc_182 (a := 1) (b := 42) (n := 298) (by decide +kernel)
theorem dX3_push_55 : decode cX3_push 55 = .ok (.putfield 215, 3) := dc_181 (a := 0) (b := 215) (n := 215) (by decide +kernel)
theorem dX3_push_58 : decode cX3_push 58 = .ok (.return_, 1) := dc_177 (by decide +kernel)
def fX3_push (this : Nat) (p0 : Int32) (h : eH) : Option (Unit × eH) :=
  (g_I 2 h this 27).bind fun x1 =>
  (p_V 2 h this 27 (.int (x1 + (1 : Int32)))).bind fun h3 =>
  (g_A 2 h3 this 19).bind fun a5 =>
  (g_I 2 h3 this 27).bind fun x7 =>
  (q_V 100 h3 a5 x7 (.int p0)).bind fun h9 =>
  (g_A 2 h9 this 20).bind fun a11 =>
  (g_I 2 h9 this 27).bind fun x13 =>
  (g_A 2 h9 this 16).bind fun a15 =>
  (g_I 33 h9 a15 1).bind fun x17 =>
  (q_V 100 h9 a11 x13 (.int x17)).bind fun h19 =>
  (g_A 2 h19 this 21).bind fun a21 =>
  (g_I 2 h19 this 27).bind fun x23 =>
  (q_V 100 h19 a21 x23 (.int (-2147483648 : Int32))).bind fun h25 =>
  (g_A 2 h25 this 5).bind fun a27 =>
  (k_ok 2 h25 this).bind fun _ =>
  (fX3_isVertical this h25).bind fun q30 =>
  (p_Z 7 q30.2 a27 11 q30.1).bind fun h31 =>
  some ((), h31)
theorem pX3_push {w : eW} {d : Nat} (hd : 1 ≤ d) {this : Nat} {p0 : Int32} {h : eH} {q} (hf : fX3_push this p0 h = some q) : wm w d YX3_push [.ref this, .int p0] h (e_is (e_rn c_V q)) := by
  obtain ⟨d, rfl⟩ : ∃ e, d = e + 1 := ⟨d - 1, by omega⟩
  show wp w (d + 1) YX3_push 0 [some (.ref this), some (.int p0)] [] h _
  unfold fX3_push at hf
  refine w_aload_n dX3_push_0 rfl rfl ?_
  refine w_dup dX3_push_1 rfl ?_
  obtain ⟨x1, b2, hf⟩ := Option.bind_eq_some_iff.mp hf
  refine GX3_211 b2 dX3_push_2 rfl ?_
  refine w_iconst dX3_push_5 (v := 1) (by decide) ?_
  refine w_iadd dX3_push_6 ?_
  obtain ⟨h3, b4, hf⟩ := Option.bind_eq_some_iff.mp hf
  refine SX3_211 b4 dX3_push_7 rfl ?_
  refine w_aload_n dX3_push_10 rfl rfl ?_
  obtain ⟨a5, b6, hf⟩ := Option.bind_eq_some_iff.mp hf
  refine GX3_136 b6 dX3_push_11 rfl ?_
  refine w_aload_n dX3_push_14 rfl rfl ?_
  obtain ⟨x7, b8, hf⟩ := Option.bind_eq_some_iff.mp hf
  refine GX3_211 b8 dX3_push_15 rfl ?_
  refine w_iload_n dX3_push_18 rfl rfl ?_
  obtain ⟨h9, b10, hf⟩ := Option.bind_eq_some_iff.mp hf
  refine x_qI b10 dX3_push_19 ?_
  refine w_aload_n dX3_push_20 rfl rfl ?_
  obtain ⟨a11, b12, hf⟩ := Option.bind_eq_some_iff.mp hf
  refine GX3_140 b12 dX3_push_21 rfl ?_
  refine w_aload_n dX3_push_24 rfl rfl ?_
  obtain ⟨x13, b14, hf⟩ := Option.bind_eq_some_iff.mp hf
  refine GX3_211 b14 dX3_push_25 rfl ?_
  refine w_aload_n dX3_push_28 rfl rfl ?_
  obtain ⟨a15, b16, hf⟩ := Option.bind_eq_some_iff.mp hf
  refine GX3_126 b16 dX3_push_29 rfl ?_
  obtain ⟨x17, b18, hf⟩ := Option.bind_eq_some_iff.mp hf
  refine GX3_210 b18 dX3_push_32 rfl ?_
  obtain ⟨h19, b20, hf⟩ := Option.bind_eq_some_iff.mp hf
  refine x_qI b20 dX3_push_35 ?_
  refine w_aload_n dX3_push_36 rfl rfl ?_
  obtain ⟨a21, b22, hf⟩ := Option.bind_eq_some_iff.mp hf
  refine GX3_143 b22 dX3_push_37 rfl ?_
  refine w_aload_n dX3_push_40 rfl rfl ?_
  obtain ⟨x23, b24, hf⟩ := Option.bind_eq_some_iff.mp hf
  refine GX3_211 b24 dX3_push_41 rfl ?_
  refine w_ldc dX3_push_44 q2052 ?_
  obtain ⟨h25, b26, hf⟩ := Option.bind_eq_some_iff.mp hf
  refine x_qI b26 dX3_push_46 ?_
  refine w_aload_n dX3_push_47 rfl rfl ?_
  obtain ⟨a27, b28, hf⟩ := Option.bind_eq_some_iff.mp hf
  refine GX3_45 b28 dX3_push_48 rfl ?_
  refine w_aload_n dX3_push_51 rfl rfl ?_
  obtain ⟨_, b29, hf⟩ := Option.bind_eq_some_iff.mp hf
  refine x_cnI hf (e_stV (Yc := YX3_isVertical) (ci := 2) (av := []) (st := [.ref a27]) dX3_push_52 q3190 mX3_isVertical rfl (k_ok_some b29).1 (k_ok_some b29).2) mX3_isVertical.2.2.1 mX3_isVertical.2.2.2.2.1 (Nat.le_of_ble_eq_true rfl) (Nat.le_of_ble_eq_true rfl) (fun q hq => pX3_isVertical (by omega) hq) (fun q30 hf => ?_)
  obtain ⟨h31, b32, hf⟩ := Option.bind_eq_some_iff.mp hf
  refine SX3_215 b32 dX3_push_55 rfl ?_
  cases hf
  exact w_vret dX3_push_58 rfl rfl
abbrev cX7_grow : ByteArray := prog_25_method_3_code
def yX7_grow : MethodName := ⟨RX7, "grow", "()V"⟩
def YX7_grow : eY := (yX7_grow, cX7_grow, 4, none, [])
theorem mX7_grow : e_mv YX7_grow RX7 0 := ⟨q3496, qs146, q3497, by decide, by decide +kernel, (e_sig (by decide +kernel))⟩
theorem dX7_grow_0 : decode cX7_grow 0 = .ok (.iconst 2, 1) := dc_5 (by decide +kernel)
theorem dX7_grow_1 : decode cX7_grow 1 = .ok (.aload_n 0, 1) := dc_42 (by decide +kernel)
theorem dX7_grow_2 : decode cX7_grow 2 = .ok (.getfield 22, 3) := dc_180 (a := 0) (b := 22) (n := 22) (by decide +kernel)
theorem dX7_grow_5 : decode cX7_grow 5 = .ok (.imul, 1) := dc_104 (by decide +kernel)
theorem dX7_grow_6 : decode cX7_grow 6 = .ok (.newarray .byte, 2) := dc_188_8 (by decide +kernel)
theorem dX7_grow_8 : decode cX7_grow 8 = .ok (.astore_n 1, 1) := dc_76 (by decide +kernel)
theorem dX7_grow_9 : decode cX7_grow 9 = .ok (.bipush 10, 2) := dc_16 (a := 10) (v := 10) (by decide +kernel)
theorem dX7_grow_11 : decode cX7_grow 11 = .ok (.aload_n 0, 1) := dc_42 (by decide +kernel)
theorem dX7_grow_12 : decode cX7_grow 12 = .ok (.getfield 22, 3) := dc_180 (a := 0) (b := 22) (n := 22) (by decide +kernel)
theorem dX7_grow_15 : decode cX7_grow 15 = .ok (.imul, 1) := dc_104 (by decide +kernel)
theorem dX7_grow_16 : decode cX7_grow 16 = .ok (.newarray .int, 2) := dc_188_10 (by decide +kernel)
theorem dX7_grow_18 : decode cX7_grow 18 = .ok (.astore_n 2, 1) := dc_77 (by decide +kernel)
theorem dX7_grow_19 : decode cX7_grow 19 = .ok (.iconst 2, 1) := dc_5 (by decide +kernel)
theorem dX7_grow_20 : decode cX7_grow 20 = .ok (.aload_n 0, 1) := dc_42 (by decide +kernel)
theorem dX7_grow_21 : decode cX7_grow 21 = .ok (.getfield 22, 3) := dc_180 (a := 0) (b := 22) (n := 22) (by decide +kernel)
theorem dX7_grow_24 : decode cX7_grow 24 = .ok (.imul, 1) := dc_104 (by decide +kernel)
theorem dX7_grow_25 : decode cX7_grow 25 = .ok (.newarray .int, 2) := dc_188_10 (by decide +kernel)
theorem dX7_grow_27 : decode cX7_grow 27 = .ok (.astore_n 3, 1) := dc_78 (by decide +kernel)
theorem dX7_grow_28 : decode cX7_grow 28 = .ok (.aload_n 0, 1) := dc_42 (by decide +kernel)
theorem dX7_grow_29 : decode cX7_grow 29 = .ok (.getfield 9, 3) := dc_180 (a := 0) (b := 9) (n := 9) (by decide +kernel)
theorem dX7_grow_32 : decode cX7_grow 32 = .ok (.iconst 0, 1) := dc_3 (by decide +kernel)
theorem dX7_grow_33 : decode cX7_grow 33 = .ok (.aload_n 1, 1) := dc_43 (by decide +kernel)
theorem dX7_grow_34 : decode cX7_grow 34 = .ok (.iconst 0, 1) := dc_3 (by decide +kernel)
theorem dX7_grow_35 : decode cX7_grow 35 = .ok (.aload_n 0, 1) := dc_42 (by decide +kernel)
theorem dX7_grow_36 : decode cX7_grow 36 = .ok (.getfield 22, 3) := dc_180 (a := 0) (b := 22) (n := 22) (by decide +kernel)
theorem dX7_grow_39 : decode cX7_grow 39 = .ok (.invokestatic 29, 3) := dc_184 (a := 0) (b := 29) (n := 29) (by decide +kernel)
theorem dX7_grow_42 : decode cX7_grow 42 = .ok (.aload_n 0, 1) := dc_42 (by decide +kernel)
theorem dX7_grow_43 : decode cX7_grow 43 = .ok (.getfield 15, 3) := dc_180 (a := 0) (b := 15) (n := 15) (by decide +kernel)
theorem dX7_grow_46 : decode cX7_grow 46 = .ok (.iconst 0, 1) := dc_3 (by decide +kernel)
theorem dX7_grow_47 : decode cX7_grow 47 = .ok (.aload_n 2, 1) := dc_44 (by decide +kernel)
theorem dX7_grow_48 : decode cX7_grow 48 = .ok (.iconst 0, 1) := dc_3 (by decide +kernel)
theorem dX7_grow_49 : decode cX7_grow 49 = .ok (.iconst 5, 1) := dc_8 (by decide +kernel)
theorem dX7_grow_50 : decode cX7_grow 50 = .ok (.aload_n 0, 1) := dc_42 (by decide +kernel)
theorem dX7_grow_51 : decode cX7_grow 51 = .ok (.getfield 22, 3) := dc_180 (a := 0) (b := 22) (n := 22) (by decide +kernel)
theorem dX7_grow_54 : decode cX7_grow 54 = .ok (.imul, 1) := dc_104 (by decide +kernel)
theorem dX7_grow_55 : decode cX7_grow 55 = .ok (.invokestatic 29, 3) := dc_184 (a := 0) (b := 29) (n := 29) (by decide +kernel)
theorem dX7_grow_58 : decode cX7_grow 58 = .ok (.aload_n 0, 1) := dc_42 (by decide +kernel)
theorem dX7_grow_59 : decode cX7_grow 59 = .ok (.getfield 19, 3) := dc_180 (a := 0) (b := 19) (n := 19) (by decide +kernel)
theorem dX7_grow_62 : decode cX7_grow 62 = .ok (.iconst 0, 1) := dc_3 (by decide +kernel)
theorem dX7_grow_63 : decode cX7_grow 63 = .ok (.aload_n 3, 1) := dc_45 (by decide +kernel)
theorem dX7_grow_64 : decode cX7_grow 64 = .ok (.iconst 0, 1) := dc_3 (by decide +kernel)
theorem dX7_grow_65 : decode cX7_grow 65 = .ok (.aload_n 0, 1) := dc_42 (by decide +kernel)
theorem dX7_grow_66 : decode cX7_grow 66 = .ok (.getfield 22, 3) := dc_180 (a := 0) (b := 22) (n := 22) (by decide +kernel)
theorem dX7_grow_69 : decode cX7_grow 69 = .ok (.invokestatic 29, 3) := dc_184 (a := 0) (b := 29) (n := 29) (by decide +kernel)
theorem dX7_grow_72 : decode cX7_grow 72 = .ok (.aload_n 0, 1) := dc_42 (by decide +kernel)
theorem dX7_grow_73 : decode cX7_grow 73 = .ok (.aload_n 1, 1) := dc_43 (by decide +kernel)
theorem dX7_grow_74 : decode cX7_grow 74 = .ok (.putfield 9, 3) := dc_181 (a := 0) (b := 9) (n := 9) (by decide +kernel)
theorem dX7_grow_77 : decode cX7_grow 77 = .ok (.aload_n 0, 1) := dc_42 (by decide +kernel)
theorem dX7_grow_78 : decode cX7_grow 78 = .ok (.aload_n 2, 1) := dc_44 (by decide +kernel)
theorem dX7_grow_79 : decode cX7_grow 79 = .ok (.putfield 15, 3) := dc_181 (a := 0) (b := 15) (n := 15) (by decide +kernel)
theorem dX7_grow_82 : decode cX7_grow 82 = .ok (.aload_n 0, 1) := dc_42 (by decide +kernel)
theorem dX7_grow_83 : decode cX7_grow 83 = .ok (.aload_n 3, 1) := dc_45 (by decide +kernel)
theorem dX7_grow_84 : decode cX7_grow 84 = .ok (.putfield 19, 3) := dc_181 (a := 0) (b := 19) (n := 19) (by decide +kernel)
theorem dX7_grow_87 : decode cX7_grow 87 = .ok (.return_, 1) := dc_177 (by decide +kernel)
theorem GX7_19 {w : eW} {d : Nat} {Y : eY} {pc : Nat} {ls : eL} {st : List Value} {h : eH} {Q : eO → eH → Prop} {a : Nat} {x : Nat} (hf : g_A 6 h a 2 = some x) (hd : decode Y.2.1 pc = .ok (.getfield 19, 3)) (hY : Y.1.cls = RX7) (kk : wp w d Y (pc + 3) ls (.ref x :: st) h Q) : wp w d Y pc ls (.ref a :: st) h Q := x_gA (ci := 6) (k := 2) hf hd rfl (by decide) (by rw [hY]; exact q622) kk
theorem GX7_22 {w : eW} {d : Nat} {Y : eY} {pc : Nat} {ls : eL} {st : List Value} {h : eH} {Q : eO → eH → Prop} {a : Nat} {x : Int32} (hf : g_I 6 h a 3 = some x) (hd : decode Y.2.1 pc = .ok (.getfield 22, 3)) (hY : Y.1.cls = RX7) (kk : wp w d Y (pc + 3) ls (.int x :: st) h Q) : wp w d Y pc ls (.ref a :: st) h Q := x_gI (ci := 6) (k := 3) hf hd rfl (by decide) (by rw [hY]; exact q625) kk
def fX7_grow (this : Nat) (h : eH) : Option (Unit × eH) :=
  (g_I 6 h this 3).bind fun x1 =>
  (n_arr 102 184 (.int 0) h ((2 : Int32) * x1)).bind fun q3 =>
  (g_I 6 q3.2 this 3).bind fun x5 =>
  (n_arr 100 185 (.int 0) q3.2 ((10 : Int32) * x5)).bind fun q7 =>
  (g_I 6 q7.2 this 3).bind fun x9 =>
  (n_arr 100 186 (.int 0) q7.2 ((2 : Int32) * x9)).bind fun q11 =>
  (g_A 6 q11.2 this 0).bind fun a13 =>
  (g_I 6 q11.2 this 3).bind fun x15 =>
  (a_cpy q11.2 a13 (0 : Int32) q3.1 (0 : Int32) x15).bind fun h17 =>
  (g_A 6 h17 this 1).bind fun a19 =>
  (g_I 6 h17 this 3).bind fun x21 =>
  (a_cpy h17 a19 (0 : Int32) q7.1 (0 : Int32) ((5 : Int32) * x21)).bind fun h23 =>
  (g_A 6 h23 this 2).bind fun a25 =>
  (g_I 6 h23 this 3).bind fun x27 =>
  (a_cpy h23 a25 (0 : Int32) q11.1 (0 : Int32) x27).bind fun h29 =>
  (p_V 6 h29 this 0 (.ref q3.1)).bind fun h31 =>
  (p_V 6 h31 this 1 (.ref q7.1)).bind fun h33 =>
  (p_V 6 h33 this 2 (.ref q11.1)).bind fun h35 =>
  some ((), h35)
theorem pX7_grow {w : eW} {d : Nat} (hd : 1 ≤ d) {this : Nat} {h : eH} {q} (hf : fX7_grow this h = some q) : wm w d YX7_grow [.ref this] h (e_is (e_rn c_V q)) := by
  obtain ⟨d, rfl⟩ : ∃ e, d = e + 1 := ⟨d - 1, by omega⟩
  show wp w (d + 1) YX7_grow 0 [some (.ref this), none, none, none] [] h _
  unfold fX7_grow at hf
  refine w_iconst dX7_grow_0 (v := 2) (by decide) ?_
  refine w_aload_n dX7_grow_1 rfl rfl ?_
  obtain ⟨x1, b2, hf⟩ := Option.bind_eq_some_iff.mp hf
  refine GX7_22 b2 dX7_grow_2 rfl ?_
  refine w_imul dX7_grow_5 ?_
  obtain ⟨q3, b4, hf⟩ := Option.bind_eq_some_iff.mp hf
  refine x_newB (g := 184) b4 dX7_grow_6 q507 ?_
  refine w_astore_n dX7_grow_8 rfl (by decide) (ls' := [some (.ref this), some (.ref q3.1), none, none]) rfl ?_
  refine w_bipush dX7_grow_9 (v := 10) (by decide) ?_
  refine w_aload_n dX7_grow_11 rfl rfl ?_
  obtain ⟨x5, b6, hf⟩ := Option.bind_eq_some_iff.mp hf
  refine GX7_22 b6 dX7_grow_12 rfl ?_
  refine w_imul dX7_grow_15 ?_
  obtain ⟨q7, b8, hf⟩ := Option.bind_eq_some_iff.mp hf
  refine x_newI (g := 185) b8 dX7_grow_16 q582 ?_
  refine w_astore_n dX7_grow_18 rfl (by decide) (ls' := [some (.ref this), some (.ref q3.1), some (.ref q7.1), none]) rfl ?_
  refine w_iconst dX7_grow_19 (v := 2) (by decide) ?_
  refine w_aload_n dX7_grow_20 rfl rfl ?_
  obtain ⟨x9, b10, hf⟩ := Option.bind_eq_some_iff.mp hf
  refine GX7_22 b10 dX7_grow_21 rfl ?_
  refine w_imul dX7_grow_24 ?_
  obtain ⟨q11, b12, hf⟩ := Option.bind_eq_some_iff.mp hf
  refine x_newI (g := 186) b12 dX7_grow_25 q582 ?_
  refine w_astore_n dX7_grow_27 rfl (by decide) (ls' := [some (.ref this), some (.ref q3.1), some (.ref q7.1), some (.ref q11.1)]) rfl ?_
  refine w_aload_n dX7_grow_28 rfl rfl ?_
  obtain ⟨a13, b14, hf⟩ := Option.bind_eq_some_iff.mp hf
  refine GX7_9 b14 dX7_grow_29 rfl ?_
  refine w_iconst dX7_grow_32 (v := 0) (by decide) ?_
  refine w_aload_n dX7_grow_33 rfl rfl ?_
  refine w_iconst dX7_grow_34 (v := 0) (by decide) ?_
  refine w_aload_n dX7_grow_35 rfl rfl ?_
  obtain ⟨x15, b16, hf⟩ := Option.bind_eq_some_iff.mp hf
  refine GX7_22 b16 dX7_grow_36 rfl ?_
  obtain ⟨h17, b18, hf⟩ := Option.bind_eq_some_iff.mp hf
  refine x_cpy b18 dX7_grow_39 q3498 q955 q954 q441 (Nat.le_of_ble_eq_true rfl) ?_
  refine w_aload_n dX7_grow_42 rfl rfl ?_
  obtain ⟨a19, b20, hf⟩ := Option.bind_eq_some_iff.mp hf
  refine GX7_15 b20 dX7_grow_43 rfl ?_
  refine w_iconst dX7_grow_46 (v := 0) (by decide) ?_
  refine w_aload_n dX7_grow_47 rfl rfl ?_
  refine w_iconst dX7_grow_48 (v := 0) (by decide) ?_
  refine w_iconst dX7_grow_49 (v := 5) (by decide) ?_
  refine w_aload_n dX7_grow_50 rfl rfl ?_
  obtain ⟨x21, b22, hf⟩ := Option.bind_eq_some_iff.mp hf
  refine GX7_22 b22 dX7_grow_51 rfl ?_
  refine w_imul dX7_grow_54 ?_
  obtain ⟨h23, b24, hf⟩ := Option.bind_eq_some_iff.mp hf
  refine x_cpy b24 dX7_grow_55 q3498 q955 q954 q441 (Nat.le_of_ble_eq_true rfl) ?_
  refine w_aload_n dX7_grow_58 rfl rfl ?_
  obtain ⟨a25, b26, hf⟩ := Option.bind_eq_some_iff.mp hf
  refine GX7_19 b26 dX7_grow_59 rfl ?_
  refine w_iconst dX7_grow_62 (v := 0) (by decide) ?_
  refine w_aload_n dX7_grow_63 rfl rfl ?_
  refine w_iconst dX7_grow_64 (v := 0) (by decide) ?_
  refine w_aload_n dX7_grow_65 rfl rfl ?_
  obtain ⟨x27, b28, hf⟩ := Option.bind_eq_some_iff.mp hf
  refine GX7_22 b28 dX7_grow_66 rfl ?_
  obtain ⟨h29, b30, hf⟩ := Option.bind_eq_some_iff.mp hf
  refine x_cpy b30 dX7_grow_69 q3498 q955 q954 q441 (Nat.le_of_ble_eq_true rfl) ?_
  refine w_aload_n dX7_grow_72 rfl rfl ?_
  refine w_aload_n dX7_grow_73 rfl rfl ?_
  obtain ⟨h31, b32, hf⟩ := Option.bind_eq_some_iff.mp hf
  refine SX7_9 b32 dX7_grow_74 rfl ?_
  refine w_aload_n dX7_grow_77 rfl rfl ?_
  refine w_aload_n dX7_grow_78 rfl rfl ?_
  obtain ⟨h33, b34, hf⟩ := Option.bind_eq_some_iff.mp hf
  refine SX7_15 b34 dX7_grow_79 rfl ?_
  refine w_aload_n dX7_grow_82 rfl rfl ?_
  refine w_aload_n dX7_grow_83 rfl rfl ?_
  obtain ⟨h35, b36, hf⟩ := Option.bind_eq_some_iff.mp hf
  refine SX7_19 b36 dX7_grow_84 rfl ?_
  cases hf
  exact w_vret dX7_grow_87 rfl rfl
