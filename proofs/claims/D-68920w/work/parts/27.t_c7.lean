set_option maxRecDepth 100000
set_option maxHeartbeats 4000000
theorem q482 : (Jvm.Cond.initialized "TypeHouse$Box") ∈ lw_all := lw_g (lw_at lw_m1 57 rfl) rfl
theorem q624 : (Jvm.Cond.fieldLinkNest "TypeHouse$Packer" (173 : Nat) "TypeHouse$Pool" "places" "[I" "TypeHouse") ∈ lw_tbl := lw_at lw_m1 199 rfl
theorem q668 : (Jvm.Cond.fieldLinkNest "TypeHouse$Press" (264 : Nat) "TypeHouse$Settings" "level" "I" "TypeHouse") ∈ lw_tbl := lw_at lw_m2 3 rfl
theorem q1167 : (Jvm.Cond.fieldLink "TypeHouse$Packer" (26 : Nat) "TypeHouse$Packer" "good" "Z") ∈ lw_all := lw_g (lw_at lw_m4 22 rfl) rfl
theorem q1168 : (Jvm.Cond.fieldLink "TypeHouse$Packer" (34 : Nat) "TypeHouse$Packer" "below" "Z") ∈ lw_all := lw_g (lw_at lw_m4 23 rfl) rfl
theorem q1169 : (Jvm.Cond.fieldLink "TypeHouse$Packer" (37 : Nat) "TypeHouse$Packer" "length" "J") ∈ lw_all := lw_g (lw_at lw_m4 24 rfl) rfl
theorem q1170 : (Jvm.Cond.fieldLink "TypeHouse$Packer" (41 : Nat) "TypeHouse$Packer" "across" "J") ∈ lw_all := lw_g (lw_at lw_m4 25 rfl) rfl
theorem q1171 : (Jvm.Cond.fieldLink "TypeHouse$Packer" (44 : Nat) "TypeHouse$Packer" "under" "J") ∈ lw_all := lw_g (lw_at lw_m4 26 rfl) rfl
theorem q1172 : (Jvm.Cond.fieldLink "TypeHouse$Packer" (47 : Nat) "TypeHouse$Packer" "depth" "J") ∈ lw_all := lw_g (lw_at lw_m4 27 rfl) rfl
theorem q1259 : (Jvm.Cond.fieldLink "TypeHouse$Paragraph" (28 : Nat) "TypeHouse$Paragraph" "size" "I") ∈ lw_all := lw_g (lw_at lw_m4 114 rfl) rfl
theorem q1261 : (Jvm.Cond.fieldLinkNest "TypeHouse$Breaker" (65 : Nat) "TypeHouse$Paragraph" "size" "I" "TypeHouse") ∈ lw_tbl := lw_at lw_m4 116 rfl
theorem q2640 : (Jvm.Cond.instantiable "TypeHouse$Box" (13 : Nat)) ∈ lw_all := lw_g (lw_at lw_m10 55 rfl) rfl
theorem q2792 : (Jvm.Cond.methodLink "TypeHouse$Press" (280 : Nat) ({ cls := "TypeHouse$Press", name := "endWord", desc := "()V" } : Jvm.MethodName)) ∈ lw_all := lw_g (lw_at lw_m10 207 rfl) rfl
theorem q2930 : (Jvm.Cond.static ({ cls := "java/lang/Math", name := "min", desc := "(II)I" } : Jvm.MethodName)) ∈ lw_all := lw_g (lw_at lw_m11 105 rfl) rfl
theorem q2931 : (Jvm.Cond.code ({ cls := "java/lang/Math", name := "min", desc := "(II)I" } : Jvm.MethodName) prog_49_method_69_code (2 : Nat) (Option.some Jvm.ClassFile.FieldType.int)) ∈ lw_all := lw_g (lw_at lw_m11 106 rfl) rfl
theorem q3184 : (Jvm.Cond.instanceMethod ({ cls := "TypeHouse$Press", name := "character", desc := "(I)V" } : Jvm.MethodName)) ∈ lw_all := lw_g (lw_at lw_m12 119 rfl) rfl
theorem q3185 : (Jvm.Cond.code ({ cls := "TypeHouse$Press", name := "character", desc := "(I)V" } : Jvm.MethodName) prog_26_method_23_code (4 : Nat) (Option.none : Option Jvm.ClassFile.FieldType)) ∈ lw_all := lw_g (lw_at lw_m12 120 rfl) rfl
theorem q3186 : (Jvm.Cond.methodLink "TypeHouse$Press" (444 : Nat) ({ cls := "TypeHouse$Press", name := "wantHorizontal", desc := "(Z)Z" } : Jvm.MethodName)) ∈ lw_all := lw_g (lw_at lw_m12 121 rfl) rfl
theorem q3188 : (Jvm.Cond.instanceMethod ({ cls := "TypeHouse$Press", name := "wantHorizontal", desc := "(Z)Z" } : Jvm.MethodName)) ∈ lw_all := lw_g (lw_at lw_m12 123 rfl) rfl
theorem q3189 : (Jvm.Cond.code ({ cls := "TypeHouse$Press", name := "wantHorizontal", desc := "(Z)Z" } : Jvm.MethodName) prog_26_method_9_code (2 : Nat) (Option.some Jvm.ClassFile.FieldType.boolean)) ∈ lw_all := lw_g (lw_at lw_m12 124 rfl) rfl
theorem q3194 : (Jvm.Cond.methodLink "TypeHouse$Press" (302 : Nat) ({ cls := "TypeHouse$Press", name := "addGlue", desc := "(I)V" } : Jvm.MethodName)) ∈ lw_all := lw_g (lw_at lw_m12 129 rfl) rfl
theorem q3478 : (Jvm.Cond.methodLink "TypeHouse$Press" (305 : Nat) ({ cls := "TypeHouse$Press", name := "push", desc := "(I)V" } : Jvm.MethodName)) ∈ lw_all := lw_g (lw_at lw_m13 173 rfl) rfl
theorem q3482 : (Jvm.Cond.methodLink "TypeHouse$Press" (308 : Nat) ({ cls := "TypeHouse$Press", name := "indent", desc := "()V" } : Jvm.MethodName)) ∈ lw_all := lw_g (lw_at lw_m13 177 rfl) rfl
theorem q3484 : (Jvm.Cond.instanceMethod ({ cls := "TypeHouse$Press", name := "indent", desc := "()V" } : Jvm.MethodName)) ∈ lw_all := lw_g (lw_at lw_m13 179 rfl) rfl
theorem q3485 : (Jvm.Cond.code ({ cls := "TypeHouse$Press", name := "indent", desc := "()V" } : Jvm.MethodName) prog_26_method_10_code (1 : Nat) (Option.none : Option Jvm.ClassFile.FieldType)) ∈ lw_all := lw_g (lw_at lw_m13 180 rfl) rfl
theorem q3486 : (Jvm.Cond.methodLink "TypeHouse$Press" (314 : Nat) ({ cls := "TypeHouse$Press", name := "pack", desc := "(LTypeHouse$Lists;IZII)I" } : Jvm.MethodName)) ∈ lw_all := lw_g (lw_at lw_m13 181 rfl) rfl
theorem q3488 : (Jvm.Cond.instanceMethod ({ cls := "TypeHouse$Press", name := "pack", desc := "(LTypeHouse$Lists;IZII)I" } : Jvm.MethodName)) ∈ lw_all := lw_g (lw_at lw_m13 183 rfl) rfl
theorem q3489 : (Jvm.Cond.code ({ cls := "TypeHouse$Press", name := "pack", desc := "(LTypeHouse$Lists;IZII)I" } : Jvm.MethodName) prog_26_method_18_code (10 : Nat) (Option.some Jvm.ClassFile.FieldType.int)) ∈ lw_all := lw_g (lw_at lw_m13 184 rfl) rfl
theorem q3490 : (Jvm.Cond.methodLink "TypeHouse$Press" (372 : Nat) ({ cls := "TypeHouse$Pool", name := "add", desc := "(IIIIII)V" } : Jvm.MethodName)) ∈ lw_all := lw_g (lw_at lw_m13 185 rfl) rfl
theorem q3491 : (Jvm.Cond.instanceMethod ({ cls := "TypeHouse$Pool", name := "add", desc := "(IIIIII)V" } : Jvm.MethodName)) ∈ lw_all := lw_g (lw_at lw_m13 186 rfl) rfl
theorem q3492 : (Jvm.Cond.selects "TypeHouse$Pool" ({ cls := "TypeHouse$Pool", name := "add", desc := "(IIIIII)V" } : Jvm.MethodName) ({ cls := "TypeHouse$Pool", name := "add", desc := "(IIIIII)V" } : Jvm.MethodName)) ∈ lw_all := lw_g (lw_at lw_m13 187 rfl) rfl
theorem q3493 : (Jvm.Cond.code ({ cls := "TypeHouse$Pool", name := "add", desc := "(IIIIII)V" } : Jvm.MethodName) prog_25_method_2_code (8 : Nat) (Option.none : Option Jvm.ClassFile.FieldType)) ∈ lw_all := lw_g (lw_at lw_m13 188 rfl) rfl
theorem q3494 : (Jvm.Cond.methodLink "TypeHouse$Pool" (26 : Nat) ({ cls := "TypeHouse$Pool", name := "grow", desc := "()V" } : Jvm.MethodName)) ∈ lw_all := lw_g (lw_at lw_m13 189 rfl) rfl
theorem q3499 : (Jvm.Cond.methodLinkNest "TypeHouse$Press" (373 : Nat) ({ cls := "TypeHouse$Box", name := "<init>", desc := "()V" } : Jvm.MethodName) "TypeHouse") ∈ lw_tbl := lw_at lw_m13 194 rfl
theorem q3500 : (Jvm.Cond.instanceMethod ({ cls := "TypeHouse$Box", name := "<init>", desc := "()V" } : Jvm.MethodName)) ∈ lw_all := lw_g (lw_at lw_m13 195 rfl) rfl
theorem q3501 : (Jvm.Cond.code ({ cls := "TypeHouse$Box", name := "<init>", desc := "()V" } : Jvm.MethodName) prog_2_method_1_code (1 : Nat) (Option.none : Option Jvm.ClassFile.FieldType)) ∈ lw_all := lw_g (lw_at lw_m13 196 rfl) rfl
theorem q3502 : (Jvm.Cond.methodLink "TypeHouse$Box" (1 : Nat) ({ cls := "java/lang/Object", name := "<init>", desc := "()V" } : Jvm.MethodName)) ∈ lw_all := lw_g (lw_at lw_m13 197 rfl) rfl
theorem q3505 : (Jvm.Cond.fieldLinkNest "TypeHouse$Packer" (150 : Nat) "TypeHouse$Box" "from" "I" "TypeHouse") ∈ lw_tbl := lw_at lw_m13 200 rfl
theorem q3506 : (Jvm.Cond.fieldLinkNest "TypeHouse$Press" (374 : Nat) "TypeHouse$Box" "from" "I" "TypeHouse") ∈ lw_tbl := lw_at lw_m13 201 rfl
theorem q3509 : (Jvm.Cond.fieldLinkNest "TypeHouse$Packer" (147 : Nat) "TypeHouse$Box" "to" "I" "TypeHouse") ∈ lw_tbl := lw_at lw_m13 204 rfl
theorem q3510 : (Jvm.Cond.fieldLinkNest "TypeHouse$Press" (377 : Nat) "TypeHouse$Box" "to" "I" "TypeHouse") ∈ lw_tbl := lw_at lw_m13 205 rfl
theorem q3512 : (Jvm.Cond.fieldLinkNest "TypeHouse$Packer" (139 : Nat) "TypeHouse$Box" "below" "Z" "TypeHouse") ∈ lw_tbl := lw_at lw_m13 207 rfl
theorem q3513 : (Jvm.Cond.fieldLinkNest "TypeHouse$Press" (380 : Nat) "TypeHouse$Box" "below" "Z" "TypeHouse") ∈ lw_tbl := lw_at lw_m13 208 rfl
theorem q3516 : (Jvm.Cond.fieldLinkNest "TypeHouse$Packer" (76 : Nat) "TypeHouse$Box" "width" "I" "TypeHouse") ∈ lw_tbl := lw_at lw_m13 211 rfl
theorem q3520 : (Jvm.Cond.fieldLinkNest "TypeHouse$Packer" (82 : Nat) "TypeHouse$Box" "height" "I" "TypeHouse") ∈ lw_tbl := lw_at lw_m13 215 rfl
theorem q3524 : (Jvm.Cond.fieldLinkNest "TypeHouse$Packer" (85 : Nat) "TypeHouse$Box" "depth" "I" "TypeHouse") ∈ lw_tbl := lw_at lw_m13 219 rfl
theorem q3527 : (Jvm.Cond.fieldLinkNest "TypeHouse$Packer" (114 : Nat) "TypeHouse$Box" "excess" "I" "TypeHouse") ∈ lw_tbl := lw_at lw_m13 222 rfl
theorem q3529 : (Jvm.Cond.fieldLinkNest "TypeHouse$Packer" (121 : Nat) "TypeHouse$Box" "order" "I" "TypeHouse") ∈ lw_tbl := lw_at lw_m13 224 rfl
theorem q3531 : (Jvm.Cond.fieldLinkNest "TypeHouse$Packer" (124 : Nat) "TypeHouse$Box" "total" "I" "TypeHouse") ∈ lw_tbl := lw_at lw_m13 226 rfl
theorem q3533 : (Jvm.Cond.fieldLinkNest "TypeHouse$Packer" (135 : Nat) "TypeHouse$Box" "badness" "I" "TypeHouse") ∈ lw_tbl := lw_at lw_m13 228 rfl
theorem q3535 : (Jvm.Cond.fieldLinkNest "TypeHouse$Packer" (127 : Nat) "TypeHouse$Box" "overfull" "I" "TypeHouse") ∈ lw_tbl := lw_at lw_m13 230 rfl
theorem q3536 : (Jvm.Cond.fieldLinkNest "TypeHouse$Press" (391 : Nat) "TypeHouse$Box" "overfull" "I" "TypeHouse") ∈ lw_tbl := lw_at lw_m13 231 rfl
theorem q3538 : (Jvm.Cond.fieldLinkNest "TypeHouse$Packer" (144 : Nat) "TypeHouse$Box" "deep" "I" "TypeHouse") ∈ lw_tbl := lw_at lw_m13 233 rfl
theorem q3539 : (Jvm.Cond.fieldLinkNest "TypeHouse$Press" (367 : Nat) "TypeHouse$Box" "deep" "I" "TypeHouse") ∈ lw_tbl := lw_at lw_m13 234 rfl
theorem q3541 : (Jvm.Cond.fieldLinkNest "TypeHouse$Packer" (158 : Nat) "TypeHouse$Box" "all" "I" "TypeHouse") ∈ lw_tbl := lw_at lw_m13 236 rfl
theorem q3570 : (Jvm.Cond.constant "TypeHouse$Press" (383 : Nat) (1073741823 : Int32)) ∈ lw_all := lw_g (lw_at lw_m14 25 rfl) rfl
theorem q3571 : (Jvm.Cond.methodLink "TypeHouse$Press" (384 : Nat) ({ cls := "TypeHouse$Packer", name := "pack", desc := "(LTypeHouse$Box;III)Z" } : Jvm.MethodName)) ∈ lw_all := lw_g (lw_at lw_m14 26 rfl) rfl
theorem q3572 : (Jvm.Cond.instanceMethod ({ cls := "TypeHouse$Packer", name := "pack", desc := "(LTypeHouse$Box;III)Z" } : Jvm.MethodName)) ∈ lw_all := lw_g (lw_at lw_m14 27 rfl) rfl
theorem q3573 : (Jvm.Cond.selects "TypeHouse$Packer" ({ cls := "TypeHouse$Packer", name := "pack", desc := "(LTypeHouse$Box;III)Z" } : Jvm.MethodName) ({ cls := "TypeHouse$Packer", name := "pack", desc := "(LTypeHouse$Box;III)Z" } : Jvm.MethodName)) ∈ lw_all := lw_g (lw_at lw_m14 28 rfl) rfl
theorem q3574 : (Jvm.Cond.code ({ cls := "TypeHouse$Packer", name := "pack", desc := "(LTypeHouse$Box;III)Z" } : Jvm.MethodName) prog_19_method_13_code (9 : Nat) (Option.some Jvm.ClassFile.FieldType.boolean)) ∈ lw_all := lw_g (lw_at lw_m14 29 rfl) rfl
theorem q3575 : (Jvm.Cond.methodLink "TypeHouse$Packer" (140 : Nat) ({ cls := "TypeHouse$Packer", name := "clear", desc := "(Z)V" } : Jvm.MethodName)) ∈ lw_all := lw_g (lw_at lw_m14 30 rfl) rfl
theorem q3577 : (Jvm.Cond.instanceMethod ({ cls := "TypeHouse$Packer", name := "clear", desc := "(Z)V" } : Jvm.MethodName)) ∈ lw_all := lw_g (lw_at lw_m14 32 rfl) rfl
theorem q3578 : (Jvm.Cond.code ({ cls := "TypeHouse$Packer", name := "clear", desc := "(Z)V" } : Jvm.MethodName) prog_19_method_3_code (3 : Nat) (Option.none : Option Jvm.ClassFile.FieldType)) ∈ lw_all := lw_g (lw_at lw_m14 33 rfl) rfl
theorem q3579 : (Jvm.Cond.methodLink "TypeHouse$Packer" (153 : Nat) ({ cls := "TypeHouse$Packer", name := "add", desc := "(I)V" } : Jvm.MethodName)) ∈ lw_all := lw_g (lw_at lw_m14 34 rfl) rfl
theorem q3581 : (Jvm.Cond.instanceMethod ({ cls := "TypeHouse$Packer", name := "add", desc := "(I)V" } : Jvm.MethodName)) ∈ lw_all := lw_g (lw_at lw_m14 36 rfl) rfl
theorem q3582 : (Jvm.Cond.code ({ cls := "TypeHouse$Packer", name := "add", desc := "(I)V" } : Jvm.MethodName) prog_19_method_8_code (2 : Nat) (Option.none : Option Jvm.ClassFile.FieldType)) ∈ lw_all := lw_g (lw_at lw_m14 37 rfl) rfl
theorem q3583 : (Jvm.Cond.methodLink "TypeHouse$Packer" (87 : Nat) ({ cls := "TypeHouse$Pool", name := "kind", desc := "(I)I" } : Jvm.MethodName)) ∈ lw_all := lw_g (lw_at lw_m14 38 rfl) rfl
theorem q3584 : (Jvm.Cond.methodLink "TypeHouse$Packer" (73 : Nat) ({ cls := "TypeHouse$Pool", name := "of", desc := "(II)I" } : Jvm.MethodName)) ∈ lw_all := lw_g (lw_at lw_m14 39 rfl) rfl
theorem q3585 : (Jvm.Cond.methodLink "TypeHouse$Packer" (65 : Nat) ({ cls := "TypeHouse$Packer", name := "addSolid", desc := "(IJJ)V" } : Jvm.MethodName)) ∈ lw_all := lw_g (lw_at lw_m14 40 rfl) rfl
theorem q3587 : (Jvm.Cond.instanceMethod ({ cls := "TypeHouse$Packer", name := "addSolid", desc := "(IJJ)V" } : Jvm.MethodName)) ∈ lw_all := lw_g (lw_at lw_m14 42 rfl) rfl
theorem q3588 : (Jvm.Cond.code ({ cls := "TypeHouse$Packer", name := "addSolid", desc := "(IJJ)V" } : Jvm.MethodName) prog_19_method_4_code (6 : Nat) (Option.none : Option Jvm.ClassFile.FieldType)) ∈ lw_all := lw_g (lw_at lw_m14 43 rfl) rfl
theorem q3589 : (Jvm.Cond.methodLink "TypeHouse$Packer" (50 : Nat) ({ cls := "TypeHouse$Packer", name := "sum", desc := "(JJ)J" } : Jvm.MethodName)) ∈ lw_all := lw_g (lw_at lw_m14 44 rfl) rfl
theorem q3591 : (Jvm.Cond.instanceMethod ({ cls := "TypeHouse$Packer", name := "sum", desc := "(JJ)J" } : Jvm.MethodName)) ∈ lw_all := lw_g (lw_at lw_m14 46 rfl) rfl
theorem q3592 : (Jvm.Cond.code ({ cls := "TypeHouse$Packer", name := "sum", desc := "(JJ)J" } : Jvm.MethodName) prog_19_method_2_code (7 : Nat) (Option.some Jvm.ClassFile.FieldType.long)) ∈ lw_all := lw_g (lw_at lw_m14 47 rfl) rfl
theorem q3593 : (Jvm.Cond.methodLinkNest "TypeHouse$Packer" (30 : Nat) ({ cls := "TypeHouse", name := "isSize", desc := "(J)Z" } : Jvm.MethodName) "TypeHouse") ∈ lw_tbl := lw_at lw_m14 48 rfl
theorem q3594 : (Jvm.Cond.static ({ cls := "TypeHouse", name := "isSize", desc := "(J)Z" } : Jvm.MethodName)) ∈ lw_all := lw_g (lw_at lw_m14 49 rfl) rfl
theorem q3595 : (Jvm.Cond.code ({ cls := "TypeHouse", name := "isSize", desc := "(J)Z" } : Jvm.MethodName) prog_1_method_1_code (2 : Nat) (Option.some Jvm.ClassFile.FieldType.boolean)) ∈ lw_all := lw_g (lw_at lw_m14 50 rfl) rfl
theorem q3596 : (Jvm.Cond.constantLong "TypeHouse" (5 : Nat) (-1073741823 : Int64)) ∈ lw_all := lw_g (lw_at lw_m14 51 rfl) rfl
theorem q3597 : (Jvm.Cond.constantLong "TypeHouse" (7 : Nat) (1073741823 : Int64)) ∈ lw_all := lw_g (lw_at lw_m14 52 rfl) rfl
theorem q3598 : (Jvm.Cond.methodLink "TypeHouse$Packer" (54 : Nat) ({ cls := "java/lang/Math", name := "max", desc := "(JJ)J" } : Jvm.MethodName)) ∈ lw_all := lw_g (lw_at lw_m14 53 rfl) rfl
theorem q3599 : (Jvm.Cond.methodLink "TypeHouse$Packer" (91 : Nat) ({ cls := "TypeHouse$Packer", name := "addRule", desc := "(I)V" } : Jvm.MethodName)) ∈ lw_all := lw_g (lw_at lw_m14 54 rfl) rfl
theorem q3601 : (Jvm.Cond.instanceMethod ({ cls := "TypeHouse$Packer", name := "addRule", desc := "(I)V" } : Jvm.MethodName)) ∈ lw_all := lw_g (lw_at lw_m14 56 rfl) rfl
theorem q3602 : (Jvm.Cond.code ({ cls := "TypeHouse$Packer", name := "addRule", desc := "(I)V" } : Jvm.MethodName) prog_19_method_5_code (2 : Nat) (Option.none : Option Jvm.ClassFile.FieldType)) ∈ lw_all := lw_g (lw_at lw_m14 57 rfl) rfl
theorem q3603 : (Jvm.Cond.methodLink "TypeHouse$Packer" (59 : Nat) ({ cls := "TypeHouse$Pool", name := "solid", desc := "(II)I" } : Jvm.MethodName)) ∈ lw_all := lw_g (lw_at lw_m14 58 rfl) rfl
theorem q3604 : (Jvm.Cond.methodLink "TypeHouse$Packer" (69 : Nat) ({ cls := "TypeHouse$Pool", name := "isRunning", desc := "(II)Z" } : Jvm.MethodName)) ∈ lw_all := lw_g (lw_at lw_m14 59 rfl) rfl
theorem q3605 : (Jvm.Cond.methodLink "TypeHouse$Packer" (95 : Nat) ({ cls := "TypeHouse$Packer", name := "addSpace", desc := "(I)V" } : Jvm.MethodName)) ∈ lw_all := lw_g (lw_at lw_m14 60 rfl) rfl
theorem q3607 : (Jvm.Cond.instanceMethod ({ cls := "TypeHouse$Packer", name := "addSpace", desc := "(I)V" } : Jvm.MethodName)) ∈ lw_all := lw_g (lw_at lw_m14 62 rfl) rfl
theorem q3608 : (Jvm.Cond.code ({ cls := "TypeHouse$Packer", name := "addSpace", desc := "(I)V" } : Jvm.MethodName) prog_19_method_7_code (2 : Nat) (Option.none : Option Jvm.ClassFile.FieldType)) ∈ lw_all := lw_g (lw_at lw_m14 63 rfl) rfl
theorem q3609 : (Jvm.Cond.methodLink "TypeHouse$Packer" (98 : Nat) ({ cls := "TypeHouse$Packer", name := "addBox", desc := "(LTypeHouse$Box;I)V" } : Jvm.MethodName)) ∈ lw_all := lw_g (lw_at lw_m14 64 rfl) rfl
theorem q3611 : (Jvm.Cond.instanceMethod ({ cls := "TypeHouse$Packer", name := "addBox", desc := "(LTypeHouse$Box;I)V" } : Jvm.MethodName)) ∈ lw_all := lw_g (lw_at lw_m14 66 rfl) rfl
theorem q3612 : (Jvm.Cond.code ({ cls := "TypeHouse$Packer", name := "addBox", desc := "(LTypeHouse$Box;I)V" } : Jvm.MethodName) prog_19_method_6_code (3 : Nat) (Option.none : Option Jvm.ClassFile.FieldType)) ∈ lw_all := lw_g (lw_at lw_m14 67 rfl) rfl
theorem q3613 : (Jvm.Cond.methodLink "TypeHouse$Packer" (156 : Nat) ({ cls := "java/lang/Math", name := "max", desc := "(II)I" } : Jvm.MethodName)) ∈ lw_all := lw_g (lw_at lw_m14 68 rfl) rfl
theorem q3614 : (Jvm.Cond.constantLong "TypeHouse$Packer" (161 : Nat) (1000000 : Int64)) ∈ lw_all := lw_g (lw_at lw_m14 69 rfl) rfl
theorem q3615 : (Jvm.Cond.methodLink "TypeHouse$Packer" (163 : Nat) ({ cls := "java/lang/Math", name := "min", desc := "(JJ)J" } : Jvm.MethodName)) ∈ lw_all := lw_g (lw_at lw_m14 70 rfl) rfl
theorem q3616 : (Jvm.Cond.methodLink "TypeHouse$Packer" (166 : Nat) ({ cls := "TypeHouse$Packer", name := "setGlue", desc := "(LTypeHouse$Box;J)V" } : Jvm.MethodName)) ∈ lw_all := lw_g (lw_at lw_m14 71 rfl) rfl
theorem q3618 : (Jvm.Cond.instanceMethod ({ cls := "TypeHouse$Packer", name := "setGlue", desc := "(LTypeHouse$Box;J)V" } : Jvm.MethodName)) ∈ lw_all := lw_g (lw_at lw_m14 73 rfl) rfl
theorem q3619 : (Jvm.Cond.code ({ cls := "TypeHouse$Packer", name := "setGlue", desc := "(LTypeHouse$Box;J)V" } : Jvm.MethodName) prog_19_method_11_code (8 : Nat) (Option.none : Option Jvm.ClassFile.FieldType)) ∈ lw_all := lw_g (lw_at lw_m14 74 rfl) rfl
theorem q3620 : (Jvm.Cond.methodLink "TypeHouse$Packer" (117 : Nat) ({ cls := "TypeHouse$Packer", name := "highest", desc := "([J)I" } : Jvm.MethodName)) ∈ lw_all := lw_g (lw_at lw_m14 75 rfl) rfl
theorem q3621 : (Jvm.Cond.static ({ cls := "TypeHouse$Packer", name := "highest", desc := "([J)I" } : Jvm.MethodName)) ∈ lw_all := lw_g (lw_at lw_m14 76 rfl) rfl
theorem q3622 : (Jvm.Cond.code ({ cls := "TypeHouse$Packer", name := "highest", desc := "([J)I" } : Jvm.MethodName) prog_19_method_9_code (2 : Nat) (Option.some Jvm.ClassFile.FieldType.int)) ∈ lw_all := lw_g (lw_at lw_m14 77 rfl) rfl
theorem q3623 : (Jvm.Cond.constant "TypeHouse$Packer" (130 : Nat) (1000000 : Int32)) ∈ lw_all := lw_g (lw_at lw_m14 78 rfl) rfl
theorem q3624 : (Jvm.Cond.methodLink "TypeHouse$Packer" (131 : Nat) ({ cls := "TypeHouse$Packer", name := "badness", desc := "(JJ)I" } : Jvm.MethodName)) ∈ lw_all := lw_g (lw_at lw_m14 79 rfl) rfl
theorem q3625 : (Jvm.Cond.static ({ cls := "TypeHouse$Packer", name := "badness", desc := "(JJ)I" } : Jvm.MethodName)) ∈ lw_all := lw_g (lw_at lw_m14 80 rfl) rfl
theorem q3626 : (Jvm.Cond.code ({ cls := "TypeHouse$Packer", name := "badness", desc := "(JJ)I" } : Jvm.MethodName) prog_19_method_10_code (6 : Nat) (Option.some Jvm.ClassFile.FieldType.int)) ∈ lw_all := lw_g (lw_at lw_m14 81 rfl) rfl
theorem q3627 : (Jvm.Cond.constantLong "TypeHouse$Packer" (102 : Nat) (7230584 : Int64)) ∈ lw_all := lw_g (lw_at lw_m14 82 rfl) rfl
theorem q3628 : (Jvm.Cond.constantLong "TypeHouse$Packer" (104 : Nat) (297 : Int64)) ∈ lw_all := lw_g (lw_at lw_m14 83 rfl) rfl
theorem q3629 : (Jvm.Cond.constantLong "TypeHouse$Packer" (106 : Nat) (1663497 : Int64)) ∈ lw_all := lw_g (lw_at lw_m14 84 rfl) rfl
theorem q3630 : (Jvm.Cond.constantLong "TypeHouse$Packer" (108 : Nat) (1290 : Int64)) ∈ lw_all := lw_g (lw_at lw_m14 85 rfl) rfl
theorem q3631 : (Jvm.Cond.constantLong "TypeHouse$Packer" (110 : Nat) (131072 : Int64)) ∈ lw_all := lw_g (lw_at lw_m14 86 rfl) rfl
theorem q3632 : (Jvm.Cond.constantLong "TypeHouse$Packer" (112 : Nat) (262144 : Int64)) ∈ lw_all := lw_g (lw_at lw_m14 87 rfl) rfl
theorem q3633 : (Jvm.Cond.methodLink "TypeHouse$Press" (387 : Nat) ({ cls := "TypeHouse$Packer", name := "settle", desc := "(LTypeHouse$Box;)V" } : Jvm.MethodName)) ∈ lw_all := lw_g (lw_at lw_m14 88 rfl) rfl
theorem q3634 : (Jvm.Cond.instanceMethod ({ cls := "TypeHouse$Packer", name := "settle", desc := "(LTypeHouse$Box;)V" } : Jvm.MethodName)) ∈ lw_all := lw_g (lw_at lw_m14 89 rfl) rfl
theorem q3635 : (Jvm.Cond.selects "TypeHouse$Packer" ({ cls := "TypeHouse$Packer", name := "settle", desc := "(LTypeHouse$Box;)V" } : Jvm.MethodName) ({ cls := "TypeHouse$Packer", name := "settle", desc := "(LTypeHouse$Box;)V" } : Jvm.MethodName)) ∈ lw_all := lw_g (lw_at lw_m14 90 rfl) rfl
theorem q3636 : (Jvm.Cond.code ({ cls := "TypeHouse$Packer", name := "settle", desc := "(LTypeHouse$Box;)V" } : Jvm.MethodName) prog_19_method_14_code (10 : Nat) (Option.none : Option Jvm.ClassFile.FieldType)) ∈ lw_all := lw_g (lw_at lw_m14 91 rfl) rfl
theorem q3637 : (Jvm.Cond.methodLink "TypeHouse$Packer" (170 : Nat) ({ cls := "TypeHouse$Packer", name := "nearest", desc := "(JJ)J" } : Jvm.MethodName)) ∈ lw_all := lw_g (lw_at lw_m14 92 rfl) rfl
theorem q3638 : (Jvm.Cond.static ({ cls := "TypeHouse$Packer", name := "nearest", desc := "(JJ)J" } : Jvm.MethodName)) ∈ lw_all := lw_g (lw_at lw_m14 93 rfl) rfl
theorem q3639 : (Jvm.Cond.code ({ cls := "TypeHouse$Packer", name := "nearest", desc := "(JJ)J" } : Jvm.MethodName) prog_19_method_12_code (6 : Nat) (Option.some Jvm.ClassFile.FieldType.long)) ∈ lw_all := lw_g (lw_at lw_m14 94 rfl) rfl
theorem q3640 : (Jvm.Cond.constantLong "TypeHouse$Packer" (137 : Nat) (2 : Int64)) ∈ lw_all := lw_g (lw_at lw_m14 95 rfl) rfl
theorem q3641 : (Jvm.Cond.methodLink "TypeHouse$Packer" (177 : Nat) ({ cls := "TypeHouse$Packer", name := "shareOf", desc := "(IZI)I" } : Jvm.MethodName)) ∈ lw_all := lw_g (lw_at lw_m14 96 rfl) rfl
theorem q3643 : (Jvm.Cond.instanceMethod ({ cls := "TypeHouse$Packer", name := "shareOf", desc := "(IZI)I" } : Jvm.MethodName)) ∈ lw_all := lw_g (lw_at lw_m14 98 rfl) rfl
theorem q3644 : (Jvm.Cond.code ({ cls := "TypeHouse$Packer", name := "shareOf", desc := "(IZI)I" } : Jvm.MethodName) prog_19_method_15_code (5 : Nat) (Option.some Jvm.ClassFile.FieldType.int)) ∈ lw_all := lw_g (lw_at lw_m14 99 rfl) rfl
theorem q3651 : (Jvm.Cond.instanceMethod ({ cls := "TypeHouse$Press", name := "open", desc := "(I)V" } : Jvm.MethodName)) ∈ lw_all := lw_g (lw_at lw_m14 106 rfl) rfl
theorem q3652 : (Jvm.Cond.code ({ cls := "TypeHouse$Press", name := "open", desc := "(I)V" } : Jvm.MethodName) prog_26_method_44_code (2 : Nat) (Option.none : Option Jvm.ClassFile.FieldType)) ∈ lw_all := lw_g (lw_at lw_m14 107 rfl) rfl
theorem q3653 : (Jvm.Cond.methodLink "TypeHouse$Press" (676 : Nat) ({ cls := "TypeHouse$Settings", name := "open", desc := "(I)V" } : Jvm.MethodName)) ∈ lw_all := lw_g (lw_at lw_m14 108 rfl) rfl
theorem q3654 : (Jvm.Cond.instanceMethod ({ cls := "TypeHouse$Settings", name := "open", desc := "(I)V" } : Jvm.MethodName)) ∈ lw_all := lw_g (lw_at lw_m14 109 rfl) rfl
theorem q3655 : (Jvm.Cond.selects "TypeHouse$Settings" ({ cls := "TypeHouse$Settings", name := "open", desc := "(I)V" } : Jvm.MethodName) ({ cls := "TypeHouse$Settings", name := "open", desc := "(I)V" } : Jvm.MethodName)) ∈ lw_all := lw_g (lw_at lw_m14 110 rfl) rfl
theorem q3656 : (Jvm.Cond.code ({ cls := "TypeHouse$Settings", name := "open", desc := "(I)V" } : Jvm.MethodName) prog_28_method_11_code (2 : Nat) (Option.none : Option Jvm.ClassFile.FieldType)) ∈ lw_all := lw_g (lw_at lw_m14 111 rfl) rfl
theorem q3666 : (Jvm.Cond.instanceMethod ({ cls := "TypeHouse$Lists", name := "copy", desc := "(LTypeHouse$Lists;I)V" } : Jvm.MethodName)) ∈ lw_all := lw_g (lw_at lw_m14 121 rfl) rfl
theorem q3667 : (Jvm.Cond.selects "TypeHouse$Lists" ({ cls := "TypeHouse$Lists", name := "copy", desc := "(LTypeHouse$Lists;I)V" } : Jvm.MethodName) ({ cls := "TypeHouse$Lists", name := "copy", desc := "(LTypeHouse$Lists;I)V" } : Jvm.MethodName)) ∈ lw_all := lw_g (lw_at lw_m14 122 rfl) rfl
theorem q3668 : (Jvm.Cond.code ({ cls := "TypeHouse$Lists", name := "copy", desc := "(LTypeHouse$Lists;I)V" } : Jvm.MethodName) prog_13_method_5_code (4 : Nat) (Option.none : Option Jvm.ClassFile.FieldType)) ∈ lw_all := lw_g (lw_at lw_m14 123 rfl) rfl
theorem q3669 : (Jvm.Cond.methodLink "TypeHouse$Lists" (23 : Nat) ({ cls := "TypeHouse$Lists", name := "add", desc := "(IIIIII)V" } : Jvm.MethodName)) ∈ lw_all := lw_g (lw_at lw_m14 124 rfl) rfl
theorem q3672 : (Jvm.Cond.instanceMethod ({ cls := "TypeHouse$Press", name := "pop", desc := "()V" } : Jvm.MethodName)) ∈ lw_all := lw_g (lw_at lw_m14 127 rfl) rfl
theorem q3673 : (Jvm.Cond.code ({ cls := "TypeHouse$Press", name := "pop", desc := "()V" } : Jvm.MethodName) prog_26_method_7_code (1 : Nat) (Option.none : Option Jvm.ClassFile.FieldType)) ∈ lw_all := lw_g (lw_at lw_m14 128 rfl) rfl
theorem q3675 : (Jvm.Cond.instanceMethod ({ cls := "TypeHouse$Breaker", name := "prepare", desc := "([I)V" } : Jvm.MethodName)) ∈ lw_all := lw_g (lw_at lw_m14 130 rfl) rfl
theorem q3676 : (Jvm.Cond.selects "TypeHouse$Breaker" ({ cls := "TypeHouse$Breaker", name := "prepare", desc := "([I)V" } : Jvm.MethodName) ({ cls := "TypeHouse$Breaker", name := "prepare", desc := "([I)V" } : Jvm.MethodName)) ∈ lw_all := lw_g (lw_at lw_m14 131 rfl) rfl
theorem q3677 : (Jvm.Cond.code ({ cls := "TypeHouse$Breaker", name := "prepare", desc := "([I)V" } : Jvm.MethodName) prog_3_method_3_code (3 : Nat) (Option.none : Option Jvm.ClassFile.FieldType)) ∈ lw_all := lw_g (lw_at lw_m14 132 rfl) rfl
theorem q3678 : (Jvm.Cond.methodLink "TypeHouse$Breaker" (69 : Nat) ({ cls := "TypeHouse$Breaker", name := "want", desc := "(II)V" } : Jvm.MethodName)) ∈ lw_all := lw_g (lw_at lw_m14 133 rfl) rfl
theorem q3680 : (Jvm.Cond.instanceMethod ({ cls := "TypeHouse$Breaker", name := "want", desc := "(II)V" } : Jvm.MethodName)) ∈ lw_all := lw_g (lw_at lw_m14 135 rfl) rfl
theorem q3681 : (Jvm.Cond.code ({ cls := "TypeHouse$Breaker", name := "want", desc := "(II)V" } : Jvm.MethodName) prog_3_method_2_code (3 : Nat) (Option.none : Option Jvm.ClassFile.FieldType)) ∈ lw_all := lw_g (lw_at lw_m14 136 rfl) rfl
theorem q3682 : (Jvm.Cond.fieldLink "TypeHouse$Breaker" (50 : Nat) "TypeHouse$Breaker" "LEAST" "[I") ∈ lw_all := lw_g (lw_at lw_m14 137 rfl) rfl
theorem q3684 : (Jvm.Cond.fieldLink "TypeHouse$Breaker" (53 : Nat) "TypeHouse$Breaker" "MOST" "[I") ∈ lw_all := lw_g (lw_at lw_m14 139 rfl) rfl
theorem q3686 : (Jvm.Cond.methodLink "TypeHouse$Breaker" (56 : Nat) ({ cls := "java/lang/Math", name := "min", desc := "(II)I" } : Jvm.MethodName)) ∈ lw_all := lw_g (lw_at lw_m14 141 rfl) rfl
theorem q3687 : (Jvm.Cond.methodLink "TypeHouse$Breaker" (62 : Nat) ({ cls := "java/lang/Math", name := "max", desc := "(II)I" } : Jvm.MethodName)) ∈ lw_all := lw_g (lw_at lw_m14 142 rfl) rfl
theorem q3688 : (Jvm.Cond.methodLink "TypeHouse$Breaker" (73 : Nat) ({ cls := "java/util/Arrays", name := "fill", desc := "([II)V" } : Jvm.MethodName)) ∈ lw_all := lw_g (lw_at lw_m14 143 rfl) rfl
theorem q3694 : (Jvm.Cond.instanceMethod ({ cls := "TypeHouse$Paragraph", name := "add", desc := "(IIIII)I" } : Jvm.MethodName)) ∈ lw_all := lw_g (lw_at lw_m14 149 rfl) rfl
theorem q3695 : (Jvm.Cond.selects "TypeHouse$Paragraph" ({ cls := "TypeHouse$Paragraph", name := "add", desc := "(IIIII)I" } : Jvm.MethodName) ({ cls := "TypeHouse$Paragraph", name := "add", desc := "(IIIII)I" } : Jvm.MethodName)) ∈ lw_all := lw_g (lw_at lw_m14 150 rfl) rfl
theorem q3696 : (Jvm.Cond.code ({ cls := "TypeHouse$Paragraph", name := "add", desc := "(IIIII)I" } : Jvm.MethodName) prog_23_method_2_code (6 : Nat) (Option.some Jvm.ClassFile.FieldType.int)) ∈ lw_all := lw_g (lw_at lw_m14 151 rfl) rfl
abbrev cX7_add : ByteArray := prog_25_method_2_code
def yX7_add : MethodName := ⟨RX7, "add", "(IIIIII)V"⟩
def YX7_add : eY := (yX7_add, cX7_add, 8, none, [])
theorem mX7_add : e_mv YX7_add RX7 6 := ⟨q3491, q3492, q3493, by decide, by decide +kernel, (e_sig (by decide +kernel))⟩
theorem dX7_add_0 : decode cX7_add 0 = .ok (.aload_n 0, 1) := dc_42 (by decide +kernel)
theorem dX7_add_1 : decode cX7_add 1 = .ok (.getfield 22, 3) := dc_180 (a := 0) (b := 22) (n := 22) (by decide +kernel)
theorem dX7_add_4 : decode cX7_add 4 = .ok (.aload_n 0, 1) := dc_42 (by decide +kernel)
theorem dX7_add_5 : decode cX7_add 5 = .ok (.getfield 9, 3) := dc_180 (a := 0) (b := 9) (n := 9) (by decide +kernel)
theorem dX7_add_8 : decode cX7_add 8 = .ok (.arraylength, 1) := dc_190 (by decide +kernel)
theorem dX7_add_9 : decode cX7_add 9 = .ok (.if_icmp .ne 7, 3) := dc_160 (a := 0) (b := 7) (v := 7) (by decide +kernel)
theorem dX7_add_12 : decode cX7_add 12 = .ok (.aload_n 0, 1) := dc_42 (by decide +kernel)
theorem dX7_add_13 : decode cX7_add 13 = .ok (.invokevirtual 26, 3) := dc_182 (a := 0) (b := 26) (n := 26) (by decide +kernel)
theorem dX7_add_16 : decode cX7_add 16 = .ok (.aload_n 0, 1) := dc_42 (by decide +kernel)
theorem dX7_add_17 : decode cX7_add 17 = .ok (.getfield 9, 3) := dc_180 (a := 0) (b := 9) (n := 9) (by decide +kernel)
theorem dX7_add_20 : decode cX7_add 20 = .ok (.aload_n 0, 1) := dc_42 (by decide +kernel)
theorem dX7_add_21 : decode cX7_add 21 = .ok (.getfield 22, 3) := dc_180 (a := 0) (b := 22) (n := 22) (by decide +kernel)
theorem dX7_add_24 : decode cX7_add 24 = .ok (.iload_n 1, 1) := dc_27 (by decide +kernel)
theorem dX7_add_25 : decode cX7_add 25 = .ok (.i2b, 1) := dc_145 (by decide +kernel)
theorem dX7_add_26 : decode cX7_add 26 = .ok (.bastore, 1) := dc_84 (by decide +kernel)
theorem dX7_add_27 : decode cX7_add 27 = .ok (.iconst 5, 1) := dc_8 (by decide +kernel)
theorem dX7_add_28 : decode cX7_add 28 = .ok (.aload_n 0, 1) := dc_42 (by decide +kernel)
theorem dX7_add_29 : decode cX7_add 29 = .ok (.getfield 22, 3) := dc_180 (a := 0) (b := 22) (n := 22) (by decide +kernel)
theorem dX7_add_32 : decode cX7_add 32 = .ok (.imul, 1) := dc_104 (by decide +kernel)
theorem dX7_add_33 : decode cX7_add 33 = .ok (.istore 7, 2) := dc_54 (a := 7) (by decide +kernel)
theorem dX7_add_35 : decode cX7_add 35 = .ok (.aload_n 0, 1) := dc_42 (by decide +kernel)
theorem dX7_add_36 : decode cX7_add 36 = .ok (.getfield 15, 3) := dc_180 (a := 0) (b := 15) (n := 15) (by decide +kernel)
theorem dX7_add_39 : decode cX7_add 39 = .ok (.iload 7, 2) := dc_21 (a := 7) (by decide +kernel)
theorem dX7_add_41 : decode cX7_add 41 = .ok (.iload_n 2, 1) := dc_28 (by decide +kernel)
theorem dX7_add_42 : decode cX7_add 42 = .ok (.iastore, 1) := dc_79 (by decide +kernel)
theorem dX7_add_43 : decode cX7_add 43 = .ok (.aload_n 0, 1) := dc_42 (by decide +kernel)
theorem dX7_add_44 : decode cX7_add 44 = .ok (.getfield 15, 3) := dc_180 (a := 0) (b := 15) (n := 15) (by decide +kernel)
theorem dX7_add_47 : decode cX7_add 47 = .ok (.iload 7, 2) := dc_21 (a := 7) (by decide +kernel)
theorem dX7_add_49 : decode cX7_add 49 = .ok (.iconst 1, 1) := dc_4 (by decide +kernel)
theorem dX7_add_50 : decode cX7_add 50 = .ok (.iadd, 1) := dc_96 (by decide +kernel)
theorem dX7_add_51 : decode cX7_add 51 = .ok (.iload_n 3, 1) := dc_29 (by decide +kernel)
theorem dX7_add_52 : decode cX7_add 52 = .ok (.iastore, 1) := dc_79 (by decide +kernel)
theorem dX7_add_53 : decode cX7_add 53 = .ok (.aload_n 0, 1) := dc_42 (by decide +kernel)
theorem dX7_add_54 : decode cX7_add 54 = .ok (.getfield 15, 3) := dc_180 (a := 0) (b := 15) (n := 15) (by decide +kernel)
theorem dX7_add_57 : decode cX7_add 57 = .ok (.iload 7, 2) := dc_21 (a := 7) (by decide +kernel)
theorem dX7_add_59 : decode cX7_add 59 = .ok (.iconst 2, 1) := dc_5 (by decide +kernel)
theorem dX7_add_60 : decode cX7_add 60 = .ok (.iadd, 1) := dc_96 (by decide +kernel)
theorem dX7_add_61 : decode cX7_add 61 = .ok (.iload 4, 2) := dc_21 (a := 4) (by decide +kernel)
theorem dX7_add_63 : decode cX7_add 63 = .ok (.iastore, 1) := dc_79 (by decide +kernel)
theorem dX7_add_64 : decode cX7_add 64 = .ok (.aload_n 0, 1) := dc_42 (by decide +kernel)
theorem dX7_add_65 : decode cX7_add 65 = .ok (.getfield 15, 3) := dc_180 (a := 0) (b := 15) (n := 15) (by decide +kernel)
theorem dX7_add_68 : decode cX7_add 68 = .ok (.iload 7, 2) := dc_21 (a := 7) (by decide +kernel)
theorem dX7_add_70 : decode cX7_add 70 = .ok (.iconst 3, 1) := dc_6 (by decide +kernel)
theorem dX7_add_71 : decode cX7_add 71 = .ok (.iadd, 1) := dc_96 (by decide +kernel)
theorem dX7_add_72 : decode cX7_add 72 = .ok (.iload 5, 2) := dc_21 (a := 5) (by decide +kernel)
theorem dX7_add_74 : decode cX7_add 74 = .ok (.iastore, 1) := dc_79 (by decide +kernel)
theorem dX7_add_75 : decode cX7_add 75 = .ok (.aload_n 0, 1) := dc_42 (by decide +kernel)
theorem dX7_add_76 : decode cX7_add 76 = .ok (.getfield 15, 3) := dc_180 (a := 0) (b := 15) (n := 15) (by decide +kernel)
theorem dX7_add_79 : decode cX7_add 79 = .ok (.iload 7, 2) := dc_21 (a := 7) (by decide +kernel)
theorem dX7_add_81 : decode cX7_add 81 = .ok (.iconst 4, 1) := dc_7 (by decide +kernel)
theorem dX7_add_82 : decode cX7_add 82 = .ok (.iadd, 1) := dc_96 (by decide +kernel)
theorem dX7_add_83 : decode cX7_add 83 = .ok (.iload 6, 2) := dc_21 (a := 6) (by decide +kernel)
theorem dX7_add_85 : decode cX7_add 85 = .ok (.iastore, 1) := dc_79 (by decide +kernel)
theorem dX7_add_86 : decode cX7_add 86 = .ok (.aload_n 0, 1) := dc_42 (by decide +kernel)
theorem dX7_add_87 : decode cX7_add 87 = .ok (.dup, 1) := dc_89 (by decide +kernel)
theorem dX7_add_88 : decode cX7_add 88 = .ok (.getfield 22, 3) := dc_180 (a := 0) (b := 22) (n := 22) (by decide +kernel)
theorem dX7_add_91 : decode cX7_add 91 = .ok (.iconst 1, 1) := dc_4 (by decide +kernel)
theorem dX7_add_92 : decode cX7_add 92 = .ok (.iadd, 1) := dc_96 (by decide +kernel)
theorem dX7_add_93 : decode cX7_add 93 = .ok (.putfield 22, 3) := dc_181 (a := 0) (b := 22) (n := 22) (by decide +kernel)
theorem dX7_add_96 : decode cX7_add 96 = .ok (.return_, 1) := dc_177 (by decide +kernel)
theorem SX7_22 {w : eW} {d : Nat} {Y : eY} {pc : Nat} {ls : eL} {st : List Value} {h : eH} {Q : eO → eH → Prop} {a : Nat} {h' : eH} {x : Int32} (hf : p_V 6 h a 3 (.int x) = some h') (hd : decode Y.2.1 pc = .ok (.putfield 22, 3)) (hY : Y.1.cls = RX7) (kk : wp w d Y (pc + 3) ls st h' Q) : wp w d Y pc ls (.int x :: .ref a :: st) h Q := x_pI (ci := 6) (k := 3) hf hd rfl (by decide) (by rw [hY]; exact q625) rfl rfl kk
def fX7_add_b16 (l0 : Nat) (l1 : Int32) (l2 : Int32) (l3 : Int32) (l4 : Int32) (l5 : Int32) (l6 : Int32) (h : eH) : Option (Unit × eH) :=
  (g_A 6 h l0 0).bind fun a1 =>
  (g_I 6 h l0 3).bind fun x3 =>
  (q_V 102 h a1 x3 (.int ((l1).toInt8.toInt32).toInt8.toInt32)).bind fun h5 =>
  (g_I 6 h5 l0 3).bind fun x7 =>
  (g_A 6 h5 l0 1).bind fun a9 =>
  (q_V 100 h5 a9 ((5 : Int32) * x7) (.int l2)).bind fun h11 =>
  (g_A 6 h11 l0 1).bind fun a13 =>
  (q_V 100 h11 a13 (((5 : Int32) * x7) + (1 : Int32)) (.int l3)).bind fun h15 =>
  (g_A 6 h15 l0 1).bind fun a17 =>
  (q_V 100 h15 a17 (((5 : Int32) * x7) + (2 : Int32)) (.int l4)).bind fun h19 =>
  (g_A 6 h19 l0 1).bind fun a21 =>
  (q_V 100 h19 a21 (((5 : Int32) * x7) + (3 : Int32)) (.int l5)).bind fun h23 =>
  (g_A 6 h23 l0 1).bind fun a25 =>
  (q_V 100 h23 a25 (((5 : Int32) * x7) + (4 : Int32)) (.int l6)).bind fun h27 =>
  (g_I 6 h27 l0 3).bind fun x29 =>
  (p_V 6 h27 l0 3 (.int (x29 + (1 : Int32)))).bind fun h31 =>
  some ((), h31)
theorem pX7_add_b16 {w : eW} {d : Nat} (hd : 2 ≤ d + 1) {l0 : Nat} {l1 : Int32} {l2 : Int32} {l3 : Int32} {l4 : Int32} {l5 : Int32} {l6 : Int32} {h : eH} {q} (hf : fX7_add_b16 l0 l1 l2 l3 l4 l5 l6 h = some q) : wp w (d + 1) YX7_add 16 [some (.ref l0), some (.int l1), some (.int l2), some (.int l3), some (.int l4), some (.int l5), some (.int l6), none] [] h (e_is (e_rn c_V q)) := by
  unfold fX7_add_b16 at hf
  refine w_aload_n dX7_add_16 rfl rfl ?_
  obtain ⟨a1, b2, hf⟩ := Option.bind_eq_some_iff.mp hf
  refine GX7_9 b2 dX7_add_17 rfl ?_
  refine w_aload_n dX7_add_20 rfl rfl ?_
  obtain ⟨x3, b4, hf⟩ := Option.bind_eq_some_iff.mp hf
  refine GX7_22 b4 dX7_add_21 rfl ?_
  refine w_iload_n dX7_add_24 rfl rfl ?_
  refine w_i2b dX7_add_25 ?_
  obtain ⟨h5, b6, hf⟩ := Option.bind_eq_some_iff.mp hf
  refine x_qB b6 dX7_add_26 ?_
  refine w_iconst dX7_add_27 (v := 5) (by decide) ?_
  refine w_aload_n dX7_add_28 rfl rfl ?_
  obtain ⟨x7, b8, hf⟩ := Option.bind_eq_some_iff.mp hf
  refine GX7_22 b8 dX7_add_29 rfl ?_
  refine w_imul dX7_add_32 ?_
  refine w_istore dX7_add_33 (by decide) (ls' := [some (.ref l0), some (.int l1), some (.int l2), some (.int l3), some (.int l4), some (.int l5), some (.int l6), some (.int ((5 : Int32) * x7))]) rfl ?_
  refine w_aload_n dX7_add_35 rfl rfl ?_
  obtain ⟨a9, b10, hf⟩ := Option.bind_eq_some_iff.mp hf
  refine GX7_15 b10 dX7_add_36 rfl ?_
  refine w_iload dX7_add_39 rfl ?_
  refine w_iload_n dX7_add_41 rfl rfl ?_
  obtain ⟨h11, b12, hf⟩ := Option.bind_eq_some_iff.mp hf
  refine x_qI b12 dX7_add_42 ?_
  refine w_aload_n dX7_add_43 rfl rfl ?_
  obtain ⟨a13, b14, hf⟩ := Option.bind_eq_some_iff.mp hf
  refine GX7_15 b14 dX7_add_44 rfl ?_
  refine w_iload dX7_add_47 rfl ?_
  refine w_iconst dX7_add_49 (v := 1) (by decide) ?_
  refine w_iadd dX7_add_50 ?_
  refine w_iload_n dX7_add_51 rfl rfl ?_
  obtain ⟨h15, b16, hf⟩ := Option.bind_eq_some_iff.mp hf
  refine x_qI b16 dX7_add_52 ?_
  refine w_aload_n dX7_add_53 rfl rfl ?_
  obtain ⟨a17, b18, hf⟩ := Option.bind_eq_some_iff.mp hf
  refine GX7_15 b18 dX7_add_54 rfl ?_
  refine w_iload dX7_add_57 rfl ?_
  refine w_iconst dX7_add_59 (v := 2) (by decide) ?_
  refine w_iadd dX7_add_60 ?_
  refine w_iload dX7_add_61 rfl ?_
  obtain ⟨h19, b20, hf⟩ := Option.bind_eq_some_iff.mp hf
  refine x_qI b20 dX7_add_63 ?_
  refine w_aload_n dX7_add_64 rfl rfl ?_
  obtain ⟨a21, b22, hf⟩ := Option.bind_eq_some_iff.mp hf
  refine GX7_15 b22 dX7_add_65 rfl ?_
  refine w_iload dX7_add_68 rfl ?_
  refine w_iconst dX7_add_70 (v := 3) (by decide) ?_
  refine w_iadd dX7_add_71 ?_
  refine w_iload dX7_add_72 rfl ?_
  obtain ⟨h23, b24, hf⟩ := Option.bind_eq_some_iff.mp hf
  refine x_qI b24 dX7_add_74 ?_
  refine w_aload_n dX7_add_75 rfl rfl ?_
  obtain ⟨a25, b26, hf⟩ := Option.bind_eq_some_iff.mp hf
  refine GX7_15 b26 dX7_add_76 rfl ?_
  refine w_iload dX7_add_79 rfl ?_
  refine w_iconst dX7_add_81 (v := 4) (by decide) ?_
  refine w_iadd dX7_add_82 ?_
  refine w_iload dX7_add_83 rfl ?_
  obtain ⟨h27, b28, hf⟩ := Option.bind_eq_some_iff.mp hf
  refine x_qI b28 dX7_add_85 ?_
  refine w_aload_n dX7_add_86 rfl rfl ?_
  refine w_dup dX7_add_87 rfl ?_
  obtain ⟨x29, b30, hf⟩ := Option.bind_eq_some_iff.mp hf
  refine GX7_22 b30 dX7_add_88 rfl ?_
  refine w_iconst dX7_add_91 (v := 1) (by decide) ?_
  refine w_iadd dX7_add_92 ?_
  obtain ⟨h31, b32, hf⟩ := Option.bind_eq_some_iff.mp hf
  refine SX7_22 b32 dX7_add_93 rfl ?_
  cases hf
  exact w_vret dX7_add_96 rfl rfl
def fX7_add (this : Nat) (p0 : Int32) (p1 : Int32) (p2 : Int32) (p3 : Int32) (p4 : Int32) (p5 : Int32) (h : eH) : Option (Unit × eH) :=
  (g_I 6 h this 3).bind fun x1 =>
  (g_A 6 h this 0).bind fun a3 =>
  (a_len h a3).bind fun x5 =>
  if ¬ x1 = x5 then
    fX7_add_b16 this p0 p1 p2 p3 p4 p5 h
  else
    (k_ok 6 h this).bind fun _ =>
    (fX7_grow this h).bind fun q9 =>
    fX7_add_b16 this p0 p1 p2 p3 p4 p5 q9.2
theorem pX7_add {w : eW} {d : Nat} (hd : 2 ≤ d) {this : Nat} {p0 : Int32} {p1 : Int32} {p2 : Int32} {p3 : Int32} {p4 : Int32} {p5 : Int32} {h : eH} {q} (hf : fX7_add this p0 p1 p2 p3 p4 p5 h = some q) : wm w d YX7_add [.ref this, .int p0, .int p1, .int p2, .int p3, .int p4, .int p5] h (e_is (e_rn c_V q)) := by
  obtain ⟨d, rfl⟩ : ∃ e, d = e + 1 := ⟨d - 1, by omega⟩
  show wp w (d + 1) YX7_add 0 [some (.ref this), some (.int p0), some (.int p1), some (.int p2), some (.int p3), some (.int p4), some (.int p5), none] [] h _
  unfold fX7_add at hf
  refine w_aload_n dX7_add_0 rfl rfl ?_
  obtain ⟨x1, b2, hf⟩ := Option.bind_eq_some_iff.mp hf
  refine GX7_22 b2 dX7_add_1 rfl ?_
  refine w_aload_n dX7_add_4 rfl rfl ?_
  obtain ⟨a3, b4, hf⟩ := Option.bind_eq_some_iff.mp hf
  refine GX7_9 b4 dX7_add_5 rfl ?_
  obtain ⟨x5, b6, hf⟩ := Option.bind_eq_some_iff.mp hf
  refine x_len b6 dX7_add_8 ?_
  refine w_icmp_ne 16 dX7_add_9 (by decide) (fun c7 => ?_) (fun c7 => ?_)
  · replace hf := (if_pos (show ¬ x1 = x5 from c7)).symm.trans hf
    exact (pX7_add_b16 hd hf).to ⟨rfl, rfl, rfl, rfl, rfl, rfl, rfl, trivial⟩
  · replace hf := (if_neg (show ¬ (¬ x1 = x5) from (fun z => z c7))).symm.trans hf
    refine w_aload_n dX7_add_12 rfl rfl ?_
    obtain ⟨_, b8, hf⟩ := Option.bind_eq_some_iff.mp hf
    refine x_cnV hf (e_stV (Yc := YX7_grow) (ci := 6) (av := []) (st := []) dX7_add_13 q3494 mX7_grow rfl (k_ok_some b8).1 (k_ok_some b8).2) mX7_grow.2.2.1 mX7_grow.2.2.2.2.1 (Nat.le_of_ble_eq_true rfl) (Nat.le_of_ble_eq_true rfl) (fun q hq => pX7_grow (by omega) hq) (fun q9 hf => ?_)
    exact (pX7_add_b16 hd hf).to ⟨rfl, rfl, rfl, rfl, rfl, rfl, rfl, trivial⟩
abbrev cX39_init : ByteArray := prog_2_method_1_code
def yX39_init : MethodName := ⟨RX39, "<init>", "()V"⟩
def YX39_init : eY := (yX39_init, cX39_init, 1, none, [])
theorem mX39_init : e_mi YX39_init 0 := ⟨q3500, rfl, rfl, q3501, by decide, by decide +kernel, (e_sig (by decide +kernel))⟩
theorem dX39_init_0 : decode cX39_init 0 = .ok (.aload_n 0, 1) := dc_42 (by decide +kernel)
theorem dX39_init_1 : decode cX39_init 1 = .ok (.invokespecial 1, 3) := dc_183 (a := 0) (b := 1) (n := 1) (by decide +kernel)
theorem dX39_init_4 : decode cX39_init 4 = .ok (.return_, 1) := dc_177 (by decide +kernel)
def fX39_init (this : Nat) (h : eH) : Option (Unit × eH) :=
  some ((), h)
theorem pX39_init {w : eW} {d : Nat} (hd : 1 ≤ d) {this : Nat} {h : eH} {q} (hf : fX39_init this h = some q) : wm w d YX39_init [.ref this] h (e_is (e_rn c_V q)) := by
  obtain ⟨d, rfl⟩ : ∃ e, d = e + 1 := ⟨d - 1, by omega⟩
  show wp w (d + 1) YX39_init 0 [some (.ref this)] [] h _
  unfold fX39_init at hf
  refine w_aload_n dX39_init_0 rfl rfl ?_
  refine w_obj dX39_init_1 q3502 q490 q491 (by decide) ?_
  cases hf
  exact w_vret dX39_init_4 rfl rfl
abbrev cX19_clear : ByteArray := prog_19_method_3_code
def yX19_clear : MethodName := ⟨RX19, "clear", "(Z)V"⟩
def YX19_clear : eY := (yX19_clear, cX19_clear, 3, none, [])
theorem mX19_clear : e_mv YX19_clear RX19 1 := ⟨q3577, qs147, q3578, by decide, by decide +kernel, (e_sig (by decide +kernel))⟩
theorem dX19_clear_0 : decode cX19_clear 0 = .ok (.iconst 0, 1) := dc_3 (by decide +kernel)
theorem dX19_clear_1 : decode cX19_clear 1 = .ok (.istore_n 2, 1) := dc_61 (by decide +kernel)
theorem dX19_clear_2 : decode cX19_clear 2 = .ok (.iload_n 2, 1) := dc_28 (by decide +kernel)
theorem dX19_clear_3 : decode cX19_clear 3 = .ok (.iconst 4, 1) := dc_7 (by decide +kernel)
theorem dX19_clear_4 : decode cX19_clear 4 = .ok (.if_icmp .ge 23, 3) := dc_162 (a := 0) (b := 23) (v := 23) (by decide +kernel)
theorem dX19_clear_7 : decode cX19_clear 7 = .ok (.aload_n 0, 1) := dc_42 (by decide +kernel)
theorem dX19_clear_8 : decode cX19_clear 8 = .ok (.getfield 9, 3) := dc_180 (a := 0) (b := 9) (n := 9) (by decide +kernel)
theorem dX19_clear_11 : decode cX19_clear 11 = .ok (.iload_n 2, 1) := dc_28 (by decide +kernel)
theorem dX19_clear_12 : decode cX19_clear 12 = .ok (.lconst 0, 1) := dc_9 (by decide +kernel)
theorem dX19_clear_13 : decode cX19_clear 13 = .ok (.lastore, 1) := dc_80 (by decide +kernel)
theorem dX19_clear_14 : decode cX19_clear 14 = .ok (.aload_n 0, 1) := dc_42 (by decide +kernel)
theorem dX19_clear_15 : decode cX19_clear 15 = .ok (.getfield 15, 3) := dc_180 (a := 0) (b := 15) (n := 15) (by decide +kernel)
theorem dX19_clear_18 : decode cX19_clear 18 = .ok (.iload_n 2, 1) := dc_28 (by decide +kernel)
theorem dX19_clear_19 : decode cX19_clear 19 = .ok (.lconst 0, 1) := dc_9 (by decide +kernel)
theorem dX19_clear_20 : decode cX19_clear 20 = .ok (.lastore, 1) := dc_80 (by decide +kernel)
theorem dX19_clear_21 : decode cX19_clear 21 = .ok (.iinc 2 1, 3) := dc_132 (a := 2) (b := 1) (v := 1) (by decide +kernel)
theorem dX19_clear_24 : decode cX19_clear 24 = .ok (.goto (-22), 3) := dc_167 (a := 255) (b := 234) (v := -22) (by decide +kernel)
theorem dX19_clear_27 : decode cX19_clear 27 = .ok (.aload_n 0, 1) := dc_42 (by decide +kernel)
theorem dX19_clear_28 : decode cX19_clear 28 = .ok (.iconst 1, 1) := dc_4 (by decide +kernel)
theorem dX19_clear_29 : decode cX19_clear 29 = .ok (.putfield 26, 3) := dc_181 (a := 0) (b := 26) (n := 26) (by decide +kernel)
theorem dX19_clear_32 : decode cX19_clear 32 = .ok (.aload_n 0, 1) := dc_42 (by decide +kernel)
theorem dX19_clear_33 : decode cX19_clear 33 = .ok (.iload_n 1, 1) := dc_27 (by decide +kernel)
theorem dX19_clear_34 : decode cX19_clear 34 = .ok (.putfield 34, 3) := dc_181 (a := 0) (b := 34) (n := 34) (by decide +kernel)
theorem dX19_clear_37 : decode cX19_clear 37 = .ok (.aload_n 0, 1) := dc_42 (by decide +kernel)
theorem dX19_clear_38 : decode cX19_clear 38 = .ok (.lconst 0, 1) := dc_9 (by decide +kernel)
theorem dX19_clear_39 : decode cX19_clear 39 = .ok (.putfield 37, 3) := dc_181 (a := 0) (b := 37) (n := 37) (by decide +kernel)
theorem dX19_clear_42 : decode cX19_clear 42 = .ok (.aload_n 0, 1) := dc_42 (by decide +kernel)
theorem dX19_clear_43 : decode cX19_clear 43 = .ok (.lconst 0, 1) := dc_9 (by decide +kernel)
theorem dX19_clear_44 : decode cX19_clear 44 = .ok (.putfield 41, 3) := dc_181 (a := 0) (b := 41) (n := 41) (by decide +kernel)
theorem dX19_clear_47 : decode cX19_clear 47 = .ok (.aload_n 0, 1) := dc_42 (by decide +kernel)
theorem dX19_clear_48 : decode cX19_clear 48 = .ok (.lconst 0, 1) := dc_9 (by decide +kernel)
theorem dX19_clear_49 : decode cX19_clear 49 = .ok (.putfield 44, 3) := dc_181 (a := 0) (b := 44) (n := 44) (by decide +kernel)
theorem dX19_clear_52 : decode cX19_clear 52 = .ok (.aload_n 0, 1) := dc_42 (by decide +kernel)
theorem dX19_clear_53 : decode cX19_clear 53 = .ok (.lconst 0, 1) := dc_9 (by decide +kernel)
theorem dX19_clear_54 : decode cX19_clear 54 = .ok (.putfield 47, 3) := dc_181 (a := 0) (b := 47) (n := 47) (by decide +kernel)
theorem dX19_clear_57 : decode cX19_clear 57 = .ok (.return_, 1) := dc_177 (by decide +kernel)
theorem GX19_15 {w : eW} {d : Nat} {Y : eY} {pc : Nat} {ls : eL} {st : List Value} {h : eH} {Q : eO → eH → Prop} {a : Nat} {x : Nat} (hf : g_A 18 h a 3 = some x) (hd : decode Y.2.1 pc = .ok (.getfield 15, 3)) (hY : Y.1.cls = RX19) (kk : wp w d Y (pc + 3) ls (.ref x :: st) h Q) : wp w d Y pc ls (.ref a :: st) h Q := x_gA (ci := 18) (k := 3) hf hd rfl (by decide) (by rw [hY]; exact q1166) kk
theorem GX19_9 {w : eW} {d : Nat} {Y : eY} {pc : Nat} {ls : eL} {st : List Value} {h : eH} {Q : eO → eH → Prop} {a : Nat} {x : Nat} (hf : g_A 18 h a 2 = some x) (hd : decode Y.2.1 pc = .ok (.getfield 9, 3)) (hY : Y.1.cls = RX19) (kk : wp w d Y (pc + 3) ls (.ref x :: st) h Q) : wp w d Y pc ls (.ref a :: st) h Q := x_gA (ci := 18) (k := 2) hf hd rfl (by decide) (by rw [hY]; exact q1165) kk
theorem SX19_26 {w : eW} {d : Nat} {Y : eY} {pc : Nat} {ls : eL} {st : List Value} {h : eH} {Q : eO → eH → Prop} {a : Nat} {h' : eH} {x : Int32} (hf : p_Z 18 h a 4 x = some h') (hd : decode Y.2.1 pc = .ok (.putfield 26, 3)) (hY : Y.1.cls = RX19) (kk : wp w d Y (pc + 3) ls st h' Q) : wp w d Y pc ls (.int x :: .ref a :: st) h Q := x_pZ (ci := 18) (k := 4) hf hd rfl (by decide) (by rw [hY]; exact q1167) rfl rfl kk
theorem SX19_34 {w : eW} {d : Nat} {Y : eY} {pc : Nat} {ls : eL} {st : List Value} {h : eH} {Q : eO → eH → Prop} {a : Nat} {h' : eH} {x : Int32} (hf : p_Z 18 h a 5 x = some h') (hd : decode Y.2.1 pc = .ok (.putfield 34, 3)) (hY : Y.1.cls = RX19) (kk : wp w d Y (pc + 3) ls st h' Q) : wp w d Y pc ls (.int x :: .ref a :: st) h Q := x_pZ (ci := 18) (k := 5) hf hd rfl (by decide) (by rw [hY]; exact q1168) rfl rfl kk
theorem SX19_37 {w : eW} {d : Nat} {Y : eY} {pc : Nat} {ls : eL} {st : List Value} {h : eH} {Q : eO → eH → Prop} {a : Nat} {h' : eH} {x : Int64} (hf : p_V 18 h a 6 (.long x) = some h') (hd : decode Y.2.1 pc = .ok (.putfield 37, 3)) (hY : Y.1.cls = RX19) (kk : wp w d Y (pc + 3) ls st h' Q) : wp w d Y pc ls (.long x :: .ref a :: st) h Q := x_pJ (ci := 18) (k := 6) hf hd rfl (by decide) (by rw [hY]; exact q1169) rfl rfl kk
theorem SX19_41 {w : eW} {d : Nat} {Y : eY} {pc : Nat} {ls : eL} {st : List Value} {h : eH} {Q : eO → eH → Prop} {a : Nat} {h' : eH} {x : Int64} (hf : p_V 18 h a 7 (.long x) = some h') (hd : decode Y.2.1 pc = .ok (.putfield 41, 3)) (hY : Y.1.cls = RX19) (kk : wp w d Y (pc + 3) ls st h' Q) : wp w d Y pc ls (.long x :: .ref a :: st) h Q := x_pJ (ci := 18) (k := 7) hf hd rfl (by decide) (by rw [hY]; exact q1170) rfl rfl kk
theorem SX19_44 {w : eW} {d : Nat} {Y : eY} {pc : Nat} {ls : eL} {st : List Value} {h : eH} {Q : eO → eH → Prop} {a : Nat} {h' : eH} {x : Int64} (hf : p_V 18 h a 8 (.long x) = some h') (hd : decode Y.2.1 pc = .ok (.putfield 44, 3)) (hY : Y.1.cls = RX19) (kk : wp w d Y (pc + 3) ls st h' Q) : wp w d Y pc ls (.long x :: .ref a :: st) h Q := x_pJ (ci := 18) (k := 8) hf hd rfl (by decide) (by rw [hY]; exact q1171) rfl rfl kk
theorem SX19_47 {w : eW} {d : Nat} {Y : eY} {pc : Nat} {ls : eL} {st : List Value} {h : eH} {Q : eO → eH → Prop} {a : Nat} {h' : eH} {x : Int64} (hf : p_V 18 h a 9 (.long x) = some h') (hd : decode Y.2.1 pc = .ok (.putfield 47, 3)) (hY : Y.1.cls = RX19) (kk : wp w d Y (pc + 3) ls st h' Q) : wp w d Y pc ls (.long x :: .ref a :: st) h Q := x_pJ (ci := 18) (k := 9) hf hd rfl (by decide) (by rw [hY]; exact q1172) rfl rfl kk
def fX19_clear_b2 (N : Nat) : Nat → Nat → Int32 → Int32 → eH → Option (Unit × eH)
  | 0, _, _, _, _ => none
  | n + 1, l0, l1, l2, h =>
    if (4 : Int32) ≤ l2 then
      (p_Z 18 h l0 4 (1 : Int32)).bind fun h2 =>
      (p_Z 18 h2 l0 5 l1).bind fun h4 =>
      (p_V 18 h4 l0 6 (.long (0 : Int64))).bind fun h6 =>
      (p_V 18 h6 l0 7 (.long (0 : Int64))).bind fun h8 =>
      (p_V 18 h8 l0 8 (.long (0 : Int64))).bind fun h10 =>
      (p_V 18 h10 l0 9 (.long (0 : Int64))).bind fun h12 =>
      some ((), h12)
    else
      (g_A 18 h l0 2).bind fun a14 =>
      (q_V 101 h a14 l2 (.long (0 : Int64))).bind fun h16 =>
      (g_A 18 h16 l0 3).bind fun a18 =>
      (q_V 101 h16 a18 l2 (.long (0 : Int64))).bind fun h20 =>
      fX19_clear_b2 N n l0 l1 (l2 + (1 : Int32)) h20
theorem pX19_clear_b2 {w : eW} {d : Nat} (hd : 0 ≤ d) {N : Nat} : ∀ (n : Nat) l0 l1 l2 h q, fX19_clear_b2 N n l0 l1 l2 h = some q → wp w d YX19_clear 2 [some (.ref l0), some (.int l1), some (.int l2)] [] h (e_is (e_rn c_V q)) := by
  intro n
  induction n with
  | zero => intro l0 l1 l2 h q hf; simp [fX19_clear_b2] at hf
  | succ n ih =>
    intro l0 l1 l2 h q hf
    rw [fX19_clear_b2] at hf
    refine w_iload_n dX19_clear_2 rfl rfl ?_
    refine w_iconst dX19_clear_3 (v := 4) (by decide) ?_
    refine w_icmp_ge 27 dX19_clear_4 (by decide) (fun c1 => ?_) (fun c1 => ?_)
    · replace hf := (if_pos (show (4 : Int32) ≤ l2 from c1)).symm.trans hf
      refine w_aload_n dX19_clear_27 rfl rfl ?_
      refine w_iconst dX19_clear_28 (v := 1) (by decide) ?_
      obtain ⟨h2, b3, hf⟩ := Option.bind_eq_some_iff.mp hf
      refine SX19_26 b3 dX19_clear_29 rfl ?_
      refine w_aload_n dX19_clear_32 rfl rfl ?_
      refine w_iload_n dX19_clear_33 rfl rfl ?_
      obtain ⟨h4, b5, hf⟩ := Option.bind_eq_some_iff.mp hf
      refine SX19_34 b5 dX19_clear_34 rfl ?_
      refine w_aload_n dX19_clear_37 rfl rfl ?_
      refine w_lconst dX19_clear_38 (v := 0) (by decide) ?_
      obtain ⟨h6, b7, hf⟩ := Option.bind_eq_some_iff.mp hf
      refine SX19_37 b7 dX19_clear_39 rfl ?_
      refine w_aload_n dX19_clear_42 rfl rfl ?_
      refine w_lconst dX19_clear_43 (v := 0) (by decide) ?_
      obtain ⟨h8, b9, hf⟩ := Option.bind_eq_some_iff.mp hf
      refine SX19_41 b9 dX19_clear_44 rfl ?_
      refine w_aload_n dX19_clear_47 rfl rfl ?_
      refine w_lconst dX19_clear_48 (v := 0) (by decide) ?_
      obtain ⟨h10, b11, hf⟩ := Option.bind_eq_some_iff.mp hf
      refine SX19_44 b11 dX19_clear_49 rfl ?_
      refine w_aload_n dX19_clear_52 rfl rfl ?_
      refine w_lconst dX19_clear_53 (v := 0) (by decide) ?_
      obtain ⟨h12, b13, hf⟩ := Option.bind_eq_some_iff.mp hf
      refine SX19_47 b13 dX19_clear_54 rfl ?_
      cases hf
      exact w_vret dX19_clear_57 rfl rfl
    · replace hf := (if_neg (show ¬ ((4 : Int32) ≤ l2) from c1)).symm.trans hf
      refine w_aload_n dX19_clear_7 rfl rfl ?_
      obtain ⟨a14, b15, hf⟩ := Option.bind_eq_some_iff.mp hf
      refine GX19_9 b15 dX19_clear_8 rfl ?_
      refine w_iload_n dX19_clear_11 rfl rfl ?_
      refine w_lconst dX19_clear_12 (v := 0) (by decide) ?_
      obtain ⟨h16, b17, hf⟩ := Option.bind_eq_some_iff.mp hf
      refine x_qJ b17 dX19_clear_13 ?_
      refine w_aload_n dX19_clear_14 rfl rfl ?_
      obtain ⟨a18, b19, hf⟩ := Option.bind_eq_some_iff.mp hf
      refine GX19_15 b19 dX19_clear_15 rfl ?_
      refine w_iload_n dX19_clear_18 rfl rfl ?_
      refine w_lconst dX19_clear_19 (v := 0) (by decide) ?_
      obtain ⟨h20, b21, hf⟩ := Option.bind_eq_some_iff.mp hf
      refine x_qJ b21 dX19_clear_20 ?_
      refine w_iinc dX19_clear_21 (v := (l2 + (1 : Int32))) rfl rfl (by decide) (ls' := [some (.ref l0), some (.int l1), some (.int (l2 + (1 : Int32)))]) rfl ?_
      refine w_goto 2 dX19_clear_24 (by decide) ?_
      exact (ih _ _ _ _ _ hf).to ⟨rfl, rfl, rfl, trivial⟩
def fX19_clear (N : Nat) (this : Nat) (p0 : Int32) (h : eH) : Option (Unit × eH) :=
  fX19_clear_b2 N N this p0 (0 : Int32) h
theorem pX19_clear {w : eW} {d : Nat} (hd : 0 ≤ d) {N : Nat} {this : Nat} {p0 : Int32} {h : eH} {q} (hf : fX19_clear N this p0 h = some q) : wm w d YX19_clear [.ref this, .int p0] h (e_is (e_rn c_V q)) := by
  show wp w d YX19_clear 0 [some (.ref this), some (.int p0), none] [] h _
  unfold fX19_clear at hf
  refine w_iconst dX19_clear_0 (v := 0) (by decide) ?_
  refine w_istore_n dX19_clear_1 rfl (by decide) (ls' := [some (.ref this), some (.int p0), some (.int (0 : Int32))]) rfl ?_
  exact (pX19_clear_b2 hd N _ _ _ _ _ hf).to ⟨rfl, rfl, rfl, trivial⟩
abbrev cX1_isSize : ByteArray := prog_1_method_1_code
def yX1_isSize : MethodName := ⟨RX1, "isSize", "(J)Z"⟩
def YX1_isSize : eY := (yX1_isSize, cX1_isSize, 2, (Option.some FieldType.boolean), [])
theorem mX1_isSize : e_ms YX1_isSize 1 := ⟨q3594, q426, q3595, by decide, by decide +kernel, (e_sig (by decide +kernel))⟩
theorem dX1_isSize_0 : decode cX1_isSize 0 = .ok (.lload_n 0, 1) := dc_30 (by decide +kernel)
theorem dX1_isSize_1 : decode cX1_isSize 1 = .ok (.ldc2_w 5, 3) := dc_20 (a := 0) (b := 5) (n := 5) (by decide +kernel)
theorem dX1_isSize_4 : decode cX1_isSize 4 = .ok (.lcmp, 1) := dc_148 (by decide +kernel)
theorem dX1_isSize_5 : decode cX1_isSize 5 = .ok (.ifCond .lt 15, 3) := dc_155 (a := 0) (b := 15) (v := 15) (by decide +kernel)
theorem dX1_isSize_8 : decode cX1_isSize 8 = .ok (.lload_n 0, 1) := dc_30 (by decide +kernel)
theorem dX1_isSize_9 : decode cX1_isSize 9 = .ok (.ldc2_w 7, 3) := dc_20 (a := 0) (b := 7) (n := 7) (by decide +kernel)
theorem dX1_isSize_12 : decode cX1_isSize 12 = .ok (.lcmp, 1) := dc_148 (by decide +kernel)
theorem dX1_isSize_13 : decode cX1_isSize 13 = .ok (.ifCond .gt 7, 3) := dc_157 (a := 0) (b := 7) (v := 7) (by decide +kernel)
theorem dX1_isSize_16 : decode cX1_isSize 16 = .ok (.iconst 1, 1) := dc_4 (by decide +kernel)
theorem dX1_isSize_17 : decode cX1_isSize 17 = .ok (.goto 4, 3) := dc_167 (a := 0) (b := 4) (v := 4) (by decide +kernel)
theorem dX1_isSize_20 : decode cX1_isSize 20 = .ok (.iconst 0, 1) := dc_3 (by decide +kernel)
theorem dX1_isSize_21 : decode cX1_isSize 21 = .ok (.ireturn, 1) := dc_172 (by decide +kernel)
def fX1_isSize_b21 (s0 : Int32) (h : eH) : Option (Int32 × eH) :=
  z_r s0 (s0, h)
theorem pX1_isSize_b21 {w : eW} {d : Nat} (hd : 0 ≤ d) {s0 : Int32} {h : eH} {q} (hf : fX1_isSize_b21 s0 h = some q) : wp w d YX1_isSize 21 [none, none] [.int s0] h (e_is (e_rn c_I q)) := by
  unfold fX1_isSize_b21 at hf
  obtain ⟨b1, rfl⟩ := z_r_some hf
  exact w_iret dX1_isSize_21 rfl b1 rfl
def fX1_isSize_b20  (h : eH) : Option (Int32 × eH) :=
  fX1_isSize_b21 (0 : Int32) h
theorem pX1_isSize_b20 {w : eW} {d : Nat} (hd : 0 ≤ d)  {h : eH} {q} (hf : fX1_isSize_b20  h = some q) : wp w d YX1_isSize 20 [none, none] [] h (e_is (e_rn c_I q)) := by
  unfold fX1_isSize_b20 at hf
  refine w_iconst dX1_isSize_20 (v := 0) (by decide) ?_
  exact (pX1_isSize_b21 hd hf).to trivial
def fX1_isSize (p0 : Int64) (h : eH) : Option (Int32 × eH) :=
  if (lg_cmp p0 (-1073741823 : Int64)) < 0 then
    fX1_isSize_b20 h
  else
    if 0 < (lg_cmp p0 (1073741823 : Int64)) then
      fX1_isSize_b20 h
    else
      fX1_isSize_b21 (1 : Int32) h
theorem pX1_isSize {w : eW} {d : Nat} (hd : 0 ≤ d) {p0 : Int64} {h : eH} {q} (hf : fX1_isSize p0 h = some q) : wm w d YX1_isSize [.long p0] h (e_is (e_rn c_I q)) := by
  show wp w d YX1_isSize 0 [some (.long p0), none] [] h _
  unfold fX1_isSize at hf
  refine w_lload_n dX1_isSize_0 rfl rfl ?_
  refine w_ldc2 dX1_isSize_1 q3596 ?_
  refine w_lcmp dX1_isSize_4 ?_
  refine w_if_lt 20 dX1_isSize_5 (by decide) (fun c1 => ?_) (fun c1 => ?_)
  · replace hf := (if_pos (show (lg_cmp p0 (-1073741823 : Int64)) < 0 from c1)).symm.trans hf
    exact (pX1_isSize_b20 hd hf).to trivial
  · replace hf := (if_neg (show ¬ ((lg_cmp p0 (-1073741823 : Int64)) < 0) from c1)).symm.trans hf
    refine w_lload_n dX1_isSize_8 rfl rfl ?_
    refine w_ldc2 dX1_isSize_9 q3597 ?_
    refine w_lcmp dX1_isSize_12 ?_
    refine w_if_gt 20 dX1_isSize_13 (by decide) (fun c2 => ?_) (fun c2 => ?_)
    · replace hf := (if_pos (show 0 < (lg_cmp p0 (1073741823 : Int64)) from c2)).symm.trans hf
      exact (pX1_isSize_b20 hd hf).to trivial
    · replace hf := (if_neg (show ¬ (0 < (lg_cmp p0 (1073741823 : Int64))) from c2)).symm.trans hf
      refine w_iconst dX1_isSize_16 (v := 1) (by decide) ?_
      refine w_goto 21 dX1_isSize_17 (by decide) ?_
      exact (pX1_isSize_b21 hd hf).to trivial
abbrev cX19_sum : ByteArray := prog_19_method_2_code
def yX19_sum : MethodName := ⟨RX19, "sum", "(JJ)J"⟩
def YX19_sum : eY := (yX19_sum, cX19_sum, 7, (Option.some FieldType.long), [])
theorem mX19_sum : e_mv YX19_sum RX19 2 := ⟨q3591, qs150, q3592, by decide, by decide +kernel, (e_sig (by decide +kernel))⟩
theorem dX19_sum_0 : decode cX19_sum 0 = .ok (.lload_n 1, 1) := dc_31 (by decide +kernel)
theorem dX19_sum_1 : decode cX19_sum 1 = .ok (.lload_n 3, 1) := dc_33 (by decide +kernel)
theorem dX19_sum_2 : decode cX19_sum 2 = .ok (.ladd, 1) := dc_97 (by decide +kernel)
theorem dX19_sum_3 : decode cX19_sum 3 = .ok (.lstore 5, 2) := dc_55 (a := 5) (by decide +kernel)
theorem dX19_sum_5 : decode cX19_sum 5 = .ok (.aload_n 0, 1) := dc_42 (by decide +kernel)
theorem dX19_sum_6 : decode cX19_sum 6 = .ok (.dup, 1) := dc_89 (by decide +kernel)
theorem dX19_sum_7 : decode cX19_sum 7 = .ok (.getfield 26, 3) := dc_180 (a := 0) (b := 26) (n := 26) (by decide +kernel)
theorem dX19_sum_10 : decode cX19_sum 10 = .ok (.lload 5, 2) := dc_22 (a := 5) (by decide +kernel)
theorem dX19_sum_12 : decode cX19_sum 12 = .ok (.invokestatic 30, 3) := dc_184 (a := 0) (b := 30) (n := 30) (by decide +kernel)
theorem dX19_sum_15 : decode cX19_sum 15 = .ok (.iand, 1) := dc_126 (by decide +kernel)
theorem dX19_sum_16 : decode cX19_sum 16 = .ok (.putfield 26, 3) := dc_181 (a := 0) (b := 26) (n := 26) (by decide +kernel)
theorem dX19_sum_19 : decode cX19_sum 19 = .ok (.lload 5, 2) := dc_22 (a := 5) (by decide +kernel)
theorem dX19_sum_21 : decode cX19_sum 21 = .ok (.lreturn, 1) := dc_173 (by decide +kernel)
theorem GX19_26 {w : eW} {d : Nat} {Y : eY} {pc : Nat} {ls : eL} {st : List Value} {h : eH} {Q : eO → eH → Prop} {a : Nat} {x : Int32} (hf : g_I 18 h a 4 = some x) (hd : decode Y.2.1 pc = .ok (.getfield 26, 3)) (hY : Y.1.cls = RX19) (kk : wp w d Y (pc + 3) ls (.int x :: st) h Q) : wp w d Y pc ls (.ref a :: st) h Q := x_gI (ci := 18) (k := 4) hf hd rfl (by decide) (by rw [hY]; exact q1167) kk
def fX19_sum (this : Nat) (p0 : Int64) (p1 : Int64) (h : eH) : Option (Int64 × eH) :=
  (g_I 18 h this 4).bind fun x1 =>
  (fX1_isSize (p0 + p1) h).bind fun q3 =>
  (p_Z 18 q3.2 this 4 (x1 &&& q3.1)).bind fun h4 =>
  some ((p0 + p1), h4)
theorem pX19_sum {w : eW} {d : Nat} (hd : 1 ≤ d) {this : Nat} {p0 : Int64} {p1 : Int64} {h : eH} {q} (hf : fX19_sum this p0 p1 h = some q) : wm w d YX19_sum [.ref this, .long p0, .long p1] h (e_is (e_rn c_J q)) := by
  obtain ⟨d, rfl⟩ : ∃ e, d = e + 1 := ⟨d - 1, by omega⟩
  show wp w (d + 1) YX19_sum 0 [some (.ref this), some (.long p0), none, some (.long p1), none, none, none] [] h _
  unfold fX19_sum at hf
  refine w_lload_n dX19_sum_0 rfl rfl ?_
  refine w_lload_n dX19_sum_1 rfl rfl ?_
  refine w_ladd dX19_sum_2 ?_
  refine w_lstore dX19_sum_3 (by decide) (ls' := [some (.ref this), some (.long p0), none, some (.long p1), none, some (.long (p0 + p1)), none]) rfl ?_
  refine w_aload_n dX19_sum_5 rfl rfl ?_
  refine w_dup dX19_sum_6 rfl ?_
  obtain ⟨x1, b2, hf⟩ := Option.bind_eq_some_iff.mp hf
  refine GX19_26 b2 dX19_sum_7 rfl ?_
  refine w_lload dX19_sum_10 rfl ?_
  refine x_cnI hf (e_stSN (Yc := YX1_isSize) (av := [.long (p0 + p1)]) (st := [.int x1, .ref this]) dX19_sum_12 q3593 mX1_isSize) mX1_isSize.2.2.1 mX1_isSize.2.2.2.2.1 (Nat.le_of_ble_eq_true rfl) (Nat.le_of_ble_eq_true rfl) (fun q hq => pX1_isSize (by omega) hq) (fun q3 hf => ?_)
  refine w_iand dX19_sum_15 ?_
  obtain ⟨h4, b5, hf⟩ := Option.bind_eq_some_iff.mp hf
  refine SX19_26 b5 dX19_sum_16 rfl ?_
  refine w_lload dX19_sum_19 rfl ?_
  cases hf
  exact w_lret dX19_sum_21 rfl rfl
abbrev cX19_addSolid : ByteArray := prog_19_method_4_code
def yX19_addSolid : MethodName := ⟨RX19, "addSolid", "(IJJ)V"⟩
def YX19_addSolid : eY := (yX19_addSolid, cX19_addSolid, 6, none, [])
theorem mX19_addSolid : e_mv YX19_addSolid RX19 3 := ⟨q3587, qs149, q3588, by decide, by decide +kernel, (e_sig (by decide +kernel))⟩
theorem dX19_addSolid_0 : decode cX19_addSolid 0 = .ok (.aload_n 0, 1) := dc_42 (by decide +kernel)
theorem dX19_addSolid_1 : decode cX19_addSolid 1 = .ok (.getfield 34, 3) := dc_180 (a := 0) (b := 34) (n := 34) (by decide +kernel)
theorem dX19_addSolid_4 : decode cX19_addSolid 4 = .ok (.ifCond .ne 43, 3) := dc_154 (a := 0) (b := 43) (v := 43) (by decide +kernel)
theorem dX19_addSolid_7 : decode cX19_addSolid 7 = .ok (.aload_n 0, 1) := dc_42 (by decide +kernel)
theorem dX19_addSolid_8 : decode cX19_addSolid 8 = .ok (.aload_n 0, 1) := dc_42 (by decide +kernel)
theorem dX19_addSolid_9 : decode cX19_addSolid 9 = .ok (.aload_n 0, 1) := dc_42 (by decide +kernel)
theorem dX19_addSolid_10 : decode cX19_addSolid 10 = .ok (.getfield 37, 3) := dc_180 (a := 0) (b := 37) (n := 37) (by decide +kernel)
theorem dX19_addSolid_13 : decode cX19_addSolid 13 = .ok (.iload_n 1, 1) := dc_27 (by decide +kernel)
theorem dX19_addSolid_14 : decode cX19_addSolid 14 = .ok (.i2l, 1) := dc_133 (by decide +kernel)
theorem dX19_addSolid_15 : decode cX19_addSolid 15 = .ok (.invokevirtual 50, 3) := dc_182 (a := 0) (b := 50) (n := 50) (by decide +kernel)
theorem dX19_addSolid_18 : decode cX19_addSolid 18 = .ok (.putfield 37, 3) := dc_181 (a := 0) (b := 37) (n := 37) (by decide +kernel)
theorem dX19_addSolid_21 : decode cX19_addSolid 21 = .ok (.aload_n 0, 1) := dc_42 (by decide +kernel)
theorem dX19_addSolid_22 : decode cX19_addSolid 22 = .ok (.aload_n 0, 1) := dc_42 (by decide +kernel)
theorem dX19_addSolid_23 : decode cX19_addSolid 23 = .ok (.getfield 41, 3) := dc_180 (a := 0) (b := 41) (n := 41) (by decide +kernel)
theorem dX19_addSolid_26 : decode cX19_addSolid 26 = .ok (.lload_n 2, 1) := dc_32 (by decide +kernel)
theorem dX19_addSolid_27 : decode cX19_addSolid 27 = .ok (.invokestatic 54, 3) := dc_184 (a := 0) (b := 54) (n := 54) (by decide +kernel)
theorem dX19_addSolid_30 : decode cX19_addSolid 30 = .ok (.putfield 41, 3) := dc_181 (a := 0) (b := 41) (n := 41) (by decide +kernel)
theorem dX19_addSolid_33 : decode cX19_addSolid 33 = .ok (.aload_n 0, 1) := dc_42 (by decide +kernel)
theorem dX19_addSolid_34 : decode cX19_addSolid 34 = .ok (.aload_n 0, 1) := dc_42 (by decide +kernel)
theorem dX19_addSolid_35 : decode cX19_addSolid 35 = .ok (.getfield 44, 3) := dc_180 (a := 0) (b := 44) (n := 44) (by decide +kernel)
theorem dX19_addSolid_38 : decode cX19_addSolid 38 = .ok (.lload 4, 2) := dc_22 (a := 4) (by decide +kernel)
theorem dX19_addSolid_40 : decode cX19_addSolid 40 = .ok (.invokestatic 54, 3) := dc_184 (a := 0) (b := 54) (n := 54) (by decide +kernel)
theorem dX19_addSolid_43 : decode cX19_addSolid 43 = .ok (.putfield 44, 3) := dc_181 (a := 0) (b := 44) (n := 44) (by decide +kernel)
theorem dX19_addSolid_46 : decode cX19_addSolid 46 = .ok (.return_, 1) := dc_177 (by decide +kernel)
theorem dX19_addSolid_47 : decode cX19_addSolid 47 = .ok (.aload_n 0, 1) := dc_42 (by decide +kernel)
theorem dX19_addSolid_48 : decode cX19_addSolid 48 = .ok (.aload_n 0, 1) := dc_42 (by decide +kernel)
theorem dX19_addSolid_49 : decode cX19_addSolid 49 = .ok (.aload_n 0, 1) := dc_42 (by decide +kernel)
theorem dX19_addSolid_50 : decode cX19_addSolid 50 = .ok (.getfield 37, 3) := dc_180 (a := 0) (b := 37) (n := 37) (by decide +kernel)
theorem dX19_addSolid_53 : decode cX19_addSolid 53 = .ok (.aload_n 0, 1) := dc_42 (by decide +kernel)
theorem dX19_addSolid_54 : decode cX19_addSolid 54 = .ok (.getfield 47, 3) := dc_180 (a := 0) (b := 47) (n := 47) (by decide +kernel)
theorem dX19_addSolid_57 : decode cX19_addSolid 57 = .ok (.invokevirtual 50, 3) := dc_182 (a := 0) (b := 50) (n := 50) (by decide +kernel)
theorem dX19_addSolid_60 : decode cX19_addSolid 60 = .ok (.putfield 37, 3) := dc_181 (a := 0) (b := 37) (n := 37) (by decide +kernel)
theorem dX19_addSolid_63 : decode cX19_addSolid 63 = .ok (.aload_n 0, 1) := dc_42 (by decide +kernel)
theorem dX19_addSolid_64 : decode cX19_addSolid 64 = .ok (.aload_n 0, 1) := dc_42 (by decide +kernel)
theorem dX19_addSolid_65 : decode cX19_addSolid 65 = .ok (.aload_n 0, 1) := dc_42 (by decide +kernel)
theorem dX19_addSolid_66 : decode cX19_addSolid 66 = .ok (.getfield 37, 3) := dc_180 (a := 0) (b := 37) (n := 37) (by decide +kernel)
theorem dX19_addSolid_69 : decode cX19_addSolid 69 = .ok (.lload_n 2, 1) := dc_32 (by decide +kernel)
theorem dX19_addSolid_70 : decode cX19_addSolid 70 = .ok (.invokevirtual 50, 3) := dc_182 (a := 0) (b := 50) (n := 50) (by decide +kernel)
theorem dX19_addSolid_73 : decode cX19_addSolid 73 = .ok (.putfield 37, 3) := dc_181 (a := 0) (b := 37) (n := 37) (by decide +kernel)
theorem dX19_addSolid_76 : decode cX19_addSolid 76 = .ok (.aload_n 0, 1) := dc_42 (by decide +kernel)
theorem dX19_addSolid_77 : decode cX19_addSolid 77 = .ok (.lload 4, 2) := dc_22 (a := 4) (by decide +kernel)
theorem dX19_addSolid_79 : decode cX19_addSolid 79 = .ok (.putfield 47, 3) := dc_181 (a := 0) (b := 47) (n := 47) (by decide +kernel)
theorem dX19_addSolid_82 : decode cX19_addSolid 82 = .ok (.return_, 1) := dc_177 (by decide +kernel)
theorem GX19_34 {w : eW} {d : Nat} {Y : eY} {pc : Nat} {ls : eL} {st : List Value} {h : eH} {Q : eO → eH → Prop} {a : Nat} {x : Int32} (hf : g_I 18 h a 5 = some x) (hd : decode Y.2.1 pc = .ok (.getfield 34, 3)) (hY : Y.1.cls = RX19) (kk : wp w d Y (pc + 3) ls (.int x :: st) h Q) : wp w d Y pc ls (.ref a :: st) h Q := x_gI (ci := 18) (k := 5) hf hd rfl (by decide) (by rw [hY]; exact q1168) kk
theorem GX19_37 {w : eW} {d : Nat} {Y : eY} {pc : Nat} {ls : eL} {st : List Value} {h : eH} {Q : eO → eH → Prop} {a : Nat} {x : Int64} (hf : g_J 18 h a 6 = some x) (hd : decode Y.2.1 pc = .ok (.getfield 37, 3)) (hY : Y.1.cls = RX19) (kk : wp w d Y (pc + 3) ls (.long x :: st) h Q) : wp w d Y pc ls (.ref a :: st) h Q := x_gJ (ci := 18) (k := 6) hf hd rfl (by decide) (by rw [hY]; exact q1169) kk
theorem GX19_41 {w : eW} {d : Nat} {Y : eY} {pc : Nat} {ls : eL} {st : List Value} {h : eH} {Q : eO → eH → Prop} {a : Nat} {x : Int64} (hf : g_J 18 h a 7 = some x) (hd : decode Y.2.1 pc = .ok (.getfield 41, 3)) (hY : Y.1.cls = RX19) (kk : wp w d Y (pc + 3) ls (.long x :: st) h Q) : wp w d Y pc ls (.ref a :: st) h Q := x_gJ (ci := 18) (k := 7) hf hd rfl (by decide) (by rw [hY]; exact q1170) kk
theorem GX19_44 {w : eW} {d : Nat} {Y : eY} {pc : Nat} {ls : eL} {st : List Value} {h : eH} {Q : eO → eH → Prop} {a : Nat} {x : Int64} (hf : g_J 18 h a 8 = some x) (hd : decode Y.2.1 pc = .ok (.getfield 44, 3)) (hY : Y.1.cls = RX19) (kk : wp w d Y (pc + 3) ls (.long x :: st) h Q) : wp w d Y pc ls (.ref a :: st) h Q := x_gJ (ci := 18) (k := 8) hf hd rfl (by decide) (by rw [hY]; exact q1171) kk
theorem GX19_47 {w : eW} {d : Nat} {Y : eY} {pc : Nat} {ls : eL} {st : List Value} {h : eH} {Q : eO → eH → Prop} {a : Nat} {x : Int64} (hf : g_J 18 h a 9 = some x) (hd : decode Y.2.1 pc = .ok (.getfield 47, 3)) (hY : Y.1.cls = RX19) (kk : wp w d Y (pc + 3) ls (.long x :: st) h Q) : wp w d Y pc ls (.ref a :: st) h Q := x_gJ (ci := 18) (k := 9) hf hd rfl (by decide) (by rw [hY]; exact q1172) kk
def fX19_addSolid (this : Nat) (p0 : Int32) (p1 : Int64) (p2 : Int64) (h : eH) : Option (Unit × eH) :=
  (g_I 18 h this 5).bind fun x1 =>
  if ¬ x1 = 0 then
    (g_J 18 h this 6).bind fun x4 =>
    (g_J 18 h this 9).bind fun x6 =>
    (k_ok 18 h this).bind fun _ =>
    (fX19_sum this x4 x6 h).bind fun q9 =>
    (p_V 18 q9.2 this 6 (.long q9.1)).bind fun h10 =>
    (g_J 18 h10 this 6).bind fun x12 =>
    (k_ok 18 h10 this).bind fun _ =>
    (fX19_sum this x12 p1 h10).bind fun q15 =>
    (p_V 18 q15.2 this 6 (.long q15.1)).bind fun h16 =>
    (p_V 18 h16 this 9 (.long p2)).bind fun h18 =>
    some ((), h18)
  else
    (g_J 18 h this 6).bind fun x20 =>
    (k_ok 18 h this).bind fun _ =>
    (fX19_sum this x20 (p0).toInt64 h).bind fun q23 =>
    (p_V 18 q23.2 this 6 (.long q23.1)).bind fun h24 =>
    (g_J 18 h24 this 7).bind fun x26 =>
    (p_V 18 h24 this 7 (.long (m_maxJ x26 p1))).bind fun h28 =>
    (g_J 18 h28 this 8).bind fun x30 =>
    (p_V 18 h28 this 8 (.long (m_maxJ x30 p2))).bind fun h32 =>
    some ((), h32)
theorem pX19_addSolid {w : eW} {d : Nat} (hd : 2 ≤ d) {this : Nat} {p0 : Int32} {p1 : Int64} {p2 : Int64} {h : eH} {q} (hf : fX19_addSolid this p0 p1 p2 h = some q) : wm w d YX19_addSolid [.ref this, .int p0, .long p1, .long p2] h (e_is (e_rn c_V q)) := by
  obtain ⟨d, rfl⟩ : ∃ e, d = e + 1 := ⟨d - 1, by omega⟩
  show wp w (d + 1) YX19_addSolid 0 [some (.ref this), some (.int p0), some (.long p1), none, some (.long p2), none] [] h _
  unfold fX19_addSolid at hf
  refine w_aload_n dX19_addSolid_0 rfl rfl ?_
  obtain ⟨x1, b2, hf⟩ := Option.bind_eq_some_iff.mp hf
  refine GX19_34 b2 dX19_addSolid_1 rfl ?_
  refine w_if_ne 47 dX19_addSolid_4 (by decide) (fun c3 => ?_) (fun c3 => ?_)
  · replace hf := (if_pos (show ¬ x1 = 0 from c3)).symm.trans hf
    refine w_aload_n dX19_addSolid_47 rfl rfl ?_
    refine w_aload_n dX19_addSolid_48 rfl rfl ?_
    refine w_aload_n dX19_addSolid_49 rfl rfl ?_
    obtain ⟨x4, b5, hf⟩ := Option.bind_eq_some_iff.mp hf
    refine GX19_37 b5 dX19_addSolid_50 rfl ?_
    refine w_aload_n dX19_addSolid_53 rfl rfl ?_
    obtain ⟨x6, b7, hf⟩ := Option.bind_eq_some_iff.mp hf
    refine GX19_47 b7 dX19_addSolid_54 rfl ?_
    obtain ⟨_, b8, hf⟩ := Option.bind_eq_some_iff.mp hf
    refine x_cnJ hf (e_stV (Yc := YX19_sum) (ci := 18) (av := [.long x4, .long x6]) (st := [.ref this]) dX19_addSolid_57 q3589 mX19_sum rfl (k_ok_some b8).1 (k_ok_some b8).2) mX19_sum.2.2.1 mX19_sum.2.2.2.2.1 (Nat.le_of_ble_eq_true rfl) (Nat.le_of_ble_eq_true rfl) (fun q hq => pX19_sum (by omega) hq) (fun q9 hf => ?_)
    obtain ⟨h10, b11, hf⟩ := Option.bind_eq_some_iff.mp hf
    refine SX19_37 b11 dX19_addSolid_60 rfl ?_
    refine w_aload_n dX19_addSolid_63 rfl rfl ?_
    refine w_aload_n dX19_addSolid_64 rfl rfl ?_
    refine w_aload_n dX19_addSolid_65 rfl rfl ?_
    obtain ⟨x12, b13, hf⟩ := Option.bind_eq_some_iff.mp hf
    refine GX19_37 b13 dX19_addSolid_66 rfl ?_
    refine w_lload_n dX19_addSolid_69 rfl rfl ?_
    obtain ⟨_, b14, hf⟩ := Option.bind_eq_some_iff.mp hf
    refine x_cnJ hf (e_stV (Yc := YX19_sum) (ci := 18) (av := [.long x12, .long p1]) (st := [.ref this]) dX19_addSolid_70 q3589 mX19_sum rfl (k_ok_some b14).1 (k_ok_some b14).2) mX19_sum.2.2.1 mX19_sum.2.2.2.2.1 (Nat.le_of_ble_eq_true rfl) (Nat.le_of_ble_eq_true rfl) (fun q hq => pX19_sum (by omega) hq) (fun q15 hf => ?_)
    obtain ⟨h16, b17, hf⟩ := Option.bind_eq_some_iff.mp hf
    refine SX19_37 b17 dX19_addSolid_73 rfl ?_
    refine w_aload_n dX19_addSolid_76 rfl rfl ?_
    refine w_lload dX19_addSolid_77 rfl ?_
    obtain ⟨h18, b19, hf⟩ := Option.bind_eq_some_iff.mp hf
    refine SX19_47 b19 dX19_addSolid_79 rfl ?_
    cases hf
    exact w_vret dX19_addSolid_82 rfl rfl
  · replace hf := (if_neg (show ¬ (¬ x1 = 0) from (fun z => z c3))).symm.trans hf
    refine w_aload_n dX19_addSolid_7 rfl rfl ?_
    refine w_aload_n dX19_addSolid_8 rfl rfl ?_
    refine w_aload_n dX19_addSolid_9 rfl rfl ?_
    obtain ⟨x20, b21, hf⟩ := Option.bind_eq_some_iff.mp hf
    refine GX19_37 b21 dX19_addSolid_10 rfl ?_
    refine w_iload_n dX19_addSolid_13 rfl rfl ?_
    refine w_i2l dX19_addSolid_14 ?_
    obtain ⟨_, b22, hf⟩ := Option.bind_eq_some_iff.mp hf
    refine x_cnJ hf (e_stV (Yc := YX19_sum) (ci := 18) (av := [.long x20, .long (p0).toInt64]) (st := [.ref this]) dX19_addSolid_15 q3589 mX19_sum rfl (k_ok_some b22).1 (k_ok_some b22).2) mX19_sum.2.2.1 mX19_sum.2.2.2.2.1 (Nat.le_of_ble_eq_true rfl) (Nat.le_of_ble_eq_true rfl) (fun q hq => pX19_sum (by omega) hq) (fun q23 hf => ?_)
    obtain ⟨h24, b25, hf⟩ := Option.bind_eq_some_iff.mp hf
    refine SX19_37 b25 dX19_addSolid_18 rfl ?_
    refine w_aload_n dX19_addSolid_21 rfl rfl ?_
    refine w_aload_n dX19_addSolid_22 rfl rfl ?_
    obtain ⟨x26, b27, hf⟩ := Option.bind_eq_some_iff.mp hf
    refine GX19_41 b27 dX19_addSolid_23 rfl ?_
    refine w_lload_n dX19_addSolid_26 rfl rfl ?_
    refine x_maxJ dX19_addSolid_27 q3598 q3239 q478 q3240 (Nat.le_of_ble_eq_true rfl) ?_
    obtain ⟨h28, b29, hf⟩ := Option.bind_eq_some_iff.mp hf
    refine SX19_41 b29 dX19_addSolid_30 rfl ?_
    refine w_aload_n dX19_addSolid_33 rfl rfl ?_
    refine w_aload_n dX19_addSolid_34 rfl rfl ?_
    obtain ⟨x30, b31, hf⟩ := Option.bind_eq_some_iff.mp hf
    refine GX19_44 b31 dX19_addSolid_35 rfl ?_
    refine w_lload dX19_addSolid_38 rfl ?_
    refine x_maxJ dX19_addSolid_40 q3598 q3239 q478 q3240 (Nat.le_of_ble_eq_true rfl) ?_
    obtain ⟨h32, b33, hf⟩ := Option.bind_eq_some_iff.mp hf
    refine SX19_44 b33 dX19_addSolid_43 rfl ?_
    cases hf
    exact w_vret dX19_addSolid_46 rfl rfl
abbrev cX19_addRule : ByteArray := prog_19_method_5_code
def yX19_addRule : MethodName := ⟨RX19, "addRule", "(I)V"⟩
def YX19_addRule : eY := (yX19_addRule, cX19_addRule, 2, none, [])
theorem mX19_addRule : e_mv YX19_addRule RX19 1 := ⟨q3601, qs151, q3602, by decide, by decide +kernel, (e_sig (by decide +kernel))⟩
theorem dX19_addRule_0 : decode cX19_addRule 0 = .ok (.aload_n 0, 1) := dc_42 (by decide +kernel)
theorem dX19_addRule_1 : decode cX19_addRule 1 = .ok (.aload_n 0, 1) := dc_42 (by decide +kernel)
theorem dX19_addRule_2 : decode cX19_addRule 2 = .ok (.getfield 18, 3) := dc_180 (a := 0) (b := 18) (n := 18) (by decide +kernel)
theorem dX19_addRule_5 : decode cX19_addRule 5 = .ok (.iload_n 1, 1) := dc_27 (by decide +kernel)
theorem dX19_addRule_6 : decode cX19_addRule 6 = .ok (.iconst 0, 1) := dc_3 (by decide +kernel)
theorem dX19_addRule_7 : decode cX19_addRule 7 = .ok (.invokevirtual 59, 3) := dc_182 (a := 0) (b := 59) (n := 59) (by decide +kernel)
theorem dX19_addRule_10 : decode cX19_addRule 10 = .ok (.aload_n 0, 1) := dc_42 (by decide +kernel)
theorem dX19_addRule_11 : decode cX19_addRule 11 = .ok (.getfield 18, 3) := dc_180 (a := 0) (b := 18) (n := 18) (by decide +kernel)
theorem dX19_addRule_14 : decode cX19_addRule 14 = .ok (.iload_n 1, 1) := dc_27 (by decide +kernel)
theorem dX19_addRule_15 : decode cX19_addRule 15 = .ok (.iconst 1, 1) := dc_4 (by decide +kernel)
theorem dX19_addRule_16 : decode cX19_addRule 16 = .ok (.invokevirtual 59, 3) := dc_182 (a := 0) (b := 59) (n := 59) (by decide +kernel)
theorem dX19_addRule_19 : decode cX19_addRule 19 = .ok (.i2l, 1) := dc_133 (by decide +kernel)
theorem dX19_addRule_20 : decode cX19_addRule 20 = .ok (.aload_n 0, 1) := dc_42 (by decide +kernel)
theorem dX19_addRule_21 : decode cX19_addRule 21 = .ok (.getfield 18, 3) := dc_180 (a := 0) (b := 18) (n := 18) (by decide +kernel)
theorem dX19_addRule_24 : decode cX19_addRule 24 = .ok (.iload_n 1, 1) := dc_27 (by decide +kernel)
theorem dX19_addRule_25 : decode cX19_addRule 25 = .ok (.iconst 2, 1) := dc_5 (by decide +kernel)
theorem dX19_addRule_26 : decode cX19_addRule 26 = .ok (.invokevirtual 59, 3) := dc_182 (a := 0) (b := 59) (n := 59) (by decide +kernel)
theorem dX19_addRule_29 : decode cX19_addRule 29 = .ok (.i2l, 1) := dc_133 (by decide +kernel)
theorem dX19_addRule_30 : decode cX19_addRule 30 = .ok (.invokevirtual 65, 3) := dc_182 (a := 0) (b := 65) (n := 65) (by decide +kernel)
theorem dX19_addRule_33 : decode cX19_addRule 33 = .ok (.aload_n 0, 1) := dc_42 (by decide +kernel)
theorem dX19_addRule_34 : decode cX19_addRule 34 = .ok (.getfield 34, 3) := dc_180 (a := 0) (b := 34) (n := 34) (by decide +kernel)
theorem dX19_addRule_37 : decode cX19_addRule 37 = .ok (.ifCond .eq 36, 3) := dc_153 (a := 0) (b := 36) (v := 36) (by decide +kernel)
theorem dX19_addRule_40 : decode cX19_addRule 40 = .ok (.aload_n 0, 1) := dc_42 (by decide +kernel)
theorem dX19_addRule_41 : decode cX19_addRule 41 = .ok (.getfield 18, 3) := dc_180 (a := 0) (b := 18) (n := 18) (by decide +kernel)
theorem dX19_addRule_44 : decode cX19_addRule 44 = .ok (.iload_n 1, 1) := dc_27 (by decide +kernel)
theorem dX19_addRule_45 : decode cX19_addRule 45 = .ok (.iconst 0, 1) := dc_3 (by decide +kernel)
theorem dX19_addRule_46 : decode cX19_addRule 46 = .ok (.invokevirtual 69, 3) := dc_182 (a := 0) (b := 69) (n := 69) (by decide +kernel)
theorem dX19_addRule_49 : decode cX19_addRule 49 = .ok (.ifCond .ne 24, 3) := dc_154 (a := 0) (b := 24) (v := 24) (by decide +kernel)
theorem dX19_addRule_52 : decode cX19_addRule 52 = .ok (.aload_n 0, 1) := dc_42 (by decide +kernel)
theorem dX19_addRule_53 : decode cX19_addRule 53 = .ok (.aload_n 0, 1) := dc_42 (by decide +kernel)
theorem dX19_addRule_54 : decode cX19_addRule 54 = .ok (.getfield 41, 3) := dc_180 (a := 0) (b := 41) (n := 41) (by decide +kernel)
theorem dX19_addRule_57 : decode cX19_addRule 57 = .ok (.aload_n 0, 1) := dc_42 (by decide +kernel)
theorem dX19_addRule_58 : decode cX19_addRule 58 = .ok (.getfield 18, 3) := dc_180 (a := 0) (b := 18) (n := 18) (by decide +kernel)
theorem dX19_addRule_61 : decode cX19_addRule 61 = .ok (.iload_n 1, 1) := dc_27 (by decide +kernel)
theorem dX19_addRule_62 : decode cX19_addRule 62 = .ok (.iconst 0, 1) := dc_3 (by decide +kernel)
theorem dX19_addRule_63 : decode cX19_addRule 63 = .ok (.invokevirtual 73, 3) := dc_182 (a := 0) (b := 73) (n := 73) (by decide +kernel)
theorem dX19_addRule_66 : decode cX19_addRule 66 = .ok (.i2l, 1) := dc_133 (by decide +kernel)
theorem dX19_addRule_67 : decode cX19_addRule 67 = .ok (.invokestatic 54, 3) := dc_184 (a := 0) (b := 54) (n := 54) (by decide +kernel)
theorem dX19_addRule_70 : decode cX19_addRule 70 = .ok (.putfield 41, 3) := dc_181 (a := 0) (b := 41) (n := 41) (by decide +kernel)
theorem dX19_addRule_73 : decode cX19_addRule 73 = .ok (.return_, 1) := dc_177 (by decide +kernel)
theorem GX19_18 {w : eW} {d : Nat} {Y : eY} {pc : Nat} {ls : eL} {st : List Value} {h : eH} {Q : eO → eH → Prop} {a : Nat} {x : Nat} (hf : g_A 18 h a 0 = some x) (hd : decode Y.2.1 pc = .ok (.getfield 18, 3)) (hY : Y.1.cls = RX19) (kk : wp w d Y (pc + 3) ls (.ref x :: st) h Q) : wp w d Y pc ls (.ref a :: st) h Q := x_gA (ci := 18) (k := 0) hf hd rfl (by decide) (by rw [hY]; exact q1163) kk
def fX19_addRule_b73  (h : eH) : Option (Unit × eH) :=
  some ((), h)
theorem pX19_addRule_b73 {w : eW} {d : Nat} (hd : 3 ≤ d + 1)  {h : eH} {q} (hf : fX19_addRule_b73  h = some q) : wp w (d + 1) YX19_addRule 73 [none, none] [] h (e_is (e_rn c_V q)) := by
  unfold fX19_addRule_b73 at hf
  cases hf
  exact w_vret dX19_addRule_73 rfl rfl
def fX19_addRule (this : Nat) (p0 : Int32) (h : eH) : Option (Unit × eH) :=
  (g_A 18 h this 0).bind fun a1 =>
  (k_ok 6 h a1).bind fun _ =>
  (fX7_solid a1 p0 (0 : Int32) h).bind fun q4 =>
  (g_A 18 q4.2 this 0).bind fun a5 =>
  (k_ok 6 q4.2 a5).bind fun _ =>
  (fX7_solid a5 p0 (1 : Int32) q4.2).bind fun q8 =>
  (g_A 18 q8.2 this 0).bind fun a9 =>
  (k_ok 6 q8.2 a9).bind fun _ =>
  (fX7_solid a9 p0 (2 : Int32) q8.2).bind fun q12 =>
  (k_ok 18 q12.2 this).bind fun _ =>
  (fX19_addSolid this q4.1 (q8.1).toInt64 (q12.1).toInt64 q12.2).bind fun q14 =>
  (g_I 18 q14.2 this 5).bind fun x15 =>
  if x15 = 0 then
    fX19_addRule_b73 q14.2
  else
    (g_A 18 q14.2 this 0).bind fun a18 =>
    (k_ok 6 q14.2 a18).bind fun _ =>
    (fX7_isRunning a18 p0 (0 : Int32) q14.2).bind fun q21 =>
    if ¬ q21.1 = 0 then
      fX19_addRule_b73 q21.2
    else
      (g_J 18 q21.2 this 7).bind fun x23 =>
      (g_A 18 q21.2 this 0).bind fun a25 =>
      (k_ok 6 q21.2 a25).bind fun _ =>
      (fX7_of a25 p0 (0 : Int32) q21.2).bind fun q28 =>
      (p_V 18 q28.2 this 7 (.long (m_maxJ x23 (q28.1).toInt64))).bind fun h29 =>
      fX19_addRule_b73 h29
theorem pX19_addRule {w : eW} {d : Nat} (hd : 3 ≤ d) {this : Nat} {p0 : Int32} {h : eH} {q} (hf : fX19_addRule this p0 h = some q) : wm w d YX19_addRule [.ref this, .int p0] h (e_is (e_rn c_V q)) := by
  obtain ⟨d, rfl⟩ : ∃ e, d = e + 1 := ⟨d - 1, by omega⟩
  show wp w (d + 1) YX19_addRule 0 [some (.ref this), some (.int p0)] [] h _
  unfold fX19_addRule at hf
  refine w_aload_n dX19_addRule_0 rfl rfl ?_
  refine w_aload_n dX19_addRule_1 rfl rfl ?_
  obtain ⟨a1, b2, hf⟩ := Option.bind_eq_some_iff.mp hf
  refine GX19_18 b2 dX19_addRule_2 rfl ?_
  refine w_iload_n dX19_addRule_5 rfl rfl ?_
  refine w_iconst dX19_addRule_6 (v := 0) (by decide) ?_
  obtain ⟨_, b3, hf⟩ := Option.bind_eq_some_iff.mp hf
  refine x_cnI hf (e_stV (Yc := YX7_solid) (ci := 6) (av := [.int p0, .int (0 : Int32)]) (st := [.ref this]) dX19_addRule_7 q3603 mX7_solid rfl (k_ok_some b3).1 (k_ok_some b3).2) mX7_solid.2.2.1 mX7_solid.2.2.2.2.1 (Nat.le_of_ble_eq_true rfl) (Nat.le_of_ble_eq_true rfl) (fun q hq => pX7_solid (by omega) hq) (fun q4 hf => ?_)
  refine w_aload_n dX19_addRule_10 rfl rfl ?_
  obtain ⟨a5, b6, hf⟩ := Option.bind_eq_some_iff.mp hf
  refine GX19_18 b6 dX19_addRule_11 rfl ?_
  refine w_iload_n dX19_addRule_14 rfl rfl ?_
  refine w_iconst dX19_addRule_15 (v := 1) (by decide) ?_
  obtain ⟨_, b7, hf⟩ := Option.bind_eq_some_iff.mp hf
  refine x_cnI hf (e_stV (Yc := YX7_solid) (ci := 6) (av := [.int p0, .int (1 : Int32)]) (st := [.int q4.1, .ref this]) dX19_addRule_16 q3603 mX7_solid rfl (k_ok_some b7).1 (k_ok_some b7).2) mX7_solid.2.2.1 mX7_solid.2.2.2.2.1 (Nat.le_of_ble_eq_true rfl) (Nat.le_of_ble_eq_true rfl) (fun q hq => pX7_solid (by omega) hq) (fun q8 hf => ?_)
  refine w_i2l dX19_addRule_19 ?_
  refine w_aload_n dX19_addRule_20 rfl rfl ?_
  obtain ⟨a9, b10, hf⟩ := Option.bind_eq_some_iff.mp hf
  refine GX19_18 b10 dX19_addRule_21 rfl ?_
  refine w_iload_n dX19_addRule_24 rfl rfl ?_
  refine w_iconst dX19_addRule_25 (v := 2) (by decide) ?_
  obtain ⟨_, b11, hf⟩ := Option.bind_eq_some_iff.mp hf
  refine x_cnI hf (e_stV (Yc := YX7_solid) (ci := 6) (av := [.int p0, .int (2 : Int32)]) (st := [.long (q8.1).toInt64, .int q4.1, .ref this]) dX19_addRule_26 q3603 mX7_solid rfl (k_ok_some b11).1 (k_ok_some b11).2) mX7_solid.2.2.1 mX7_solid.2.2.2.2.1 (Nat.le_of_ble_eq_true rfl) (Nat.le_of_ble_eq_true rfl) (fun q hq => pX7_solid (by omega) hq) (fun q12 hf => ?_)
  refine w_i2l dX19_addRule_29 ?_
  obtain ⟨_, b13, hf⟩ := Option.bind_eq_some_iff.mp hf
  refine x_cnV hf (e_stV (Yc := YX19_addSolid) (ci := 18) (av := [.int q4.1, .long (q8.1).toInt64, .long (q12.1).toInt64]) (st := []) dX19_addRule_30 q3585 mX19_addSolid rfl (k_ok_some b13).1 (k_ok_some b13).2) mX19_addSolid.2.2.1 mX19_addSolid.2.2.2.2.1 (Nat.le_of_ble_eq_true rfl) (Nat.le_of_ble_eq_true rfl) (fun q hq => pX19_addSolid (by omega) hq) (fun q14 hf => ?_)
  refine w_aload_n dX19_addRule_33 rfl rfl ?_
  obtain ⟨x15, b16, hf⟩ := Option.bind_eq_some_iff.mp hf
  refine GX19_34 b16 dX19_addRule_34 rfl ?_
  refine w_if_eq 73 dX19_addRule_37 (by decide) (fun c17 => ?_) (fun c17 => ?_)
  · replace hf := (if_pos (show x15 = 0 from c17)).symm.trans hf
    exact (pX19_addRule_b73 hd hf).to trivial
  · replace hf := (if_neg (show ¬ (x15 = 0) from c17)).symm.trans hf
    refine w_aload_n dX19_addRule_40 rfl rfl ?_
    obtain ⟨a18, b19, hf⟩ := Option.bind_eq_some_iff.mp hf
    refine GX19_18 b19 dX19_addRule_41 rfl ?_
    refine w_iload_n dX19_addRule_44 rfl rfl ?_
    refine w_iconst dX19_addRule_45 (v := 0) (by decide) ?_
    obtain ⟨_, b20, hf⟩ := Option.bind_eq_some_iff.mp hf
    refine x_cnI hf (e_stV (Yc := YX7_isRunning) (ci := 6) (av := [.int p0, .int (0 : Int32)]) (st := []) dX19_addRule_46 q3604 mX7_isRunning rfl (k_ok_some b20).1 (k_ok_some b20).2) mX7_isRunning.2.2.1 mX7_isRunning.2.2.2.2.1 (Nat.le_of_ble_eq_true rfl) (Nat.le_of_ble_eq_true rfl) (fun q hq => pX7_isRunning (by omega) hq) (fun q21 hf => ?_)
    refine w_if_ne 73 dX19_addRule_49 (by decide) (fun c22 => ?_) (fun c22 => ?_)
    · replace hf := (if_pos (show ¬ q21.1 = 0 from c22)).symm.trans hf
      exact (pX19_addRule_b73 hd hf).to trivial
    · replace hf := (if_neg (show ¬ (¬ q21.1 = 0) from (fun z => z c22))).symm.trans hf
      refine w_aload_n dX19_addRule_52 rfl rfl ?_
      refine w_aload_n dX19_addRule_53 rfl rfl ?_
      obtain ⟨x23, b24, hf⟩ := Option.bind_eq_some_iff.mp hf
      refine GX19_41 b24 dX19_addRule_54 rfl ?_
      refine w_aload_n dX19_addRule_57 rfl rfl ?_
      obtain ⟨a25, b26, hf⟩ := Option.bind_eq_some_iff.mp hf
      refine GX19_18 b26 dX19_addRule_58 rfl ?_
      refine w_iload_n dX19_addRule_61 rfl rfl ?_
      refine w_iconst dX19_addRule_62 (v := 0) (by decide) ?_
      obtain ⟨_, b27, hf⟩ := Option.bind_eq_some_iff.mp hf
      refine x_cnI hf (e_stV (Yc := YX7_of) (ci := 6) (av := [.int p0, .int (0 : Int32)]) (st := [.long x23, .ref this]) dX19_addRule_63 q3584 mX7_of rfl (k_ok_some b27).1 (k_ok_some b27).2) mX7_of.2.2.1 mX7_of.2.2.2.2.1 (Nat.le_of_ble_eq_true rfl) (Nat.le_of_ble_eq_true rfl) (fun q hq => pX7_of (by omega) hq) (fun q28 hf => ?_)
      refine w_i2l dX19_addRule_66 ?_
      refine x_maxJ dX19_addRule_67 q3598 q3239 q478 q3240 (Nat.le_of_ble_eq_true rfl) ?_
      obtain ⟨h29, b30, hf⟩ := Option.bind_eq_some_iff.mp hf
      refine SX19_41 b30 dX19_addRule_70 rfl ?_
      exact (pX19_addRule_b73 hd hf).to trivial
abbrev cX19_addSpace : ByteArray := prog_19_method_7_code
def yX19_addSpace : MethodName := ⟨RX19, "addSpace", "(I)V"⟩
def YX19_addSpace : eY := (yX19_addSpace, cX19_addSpace, 2, none, [])
theorem mX19_addSpace : e_mv YX19_addSpace RX19 1 := ⟨q3607, qs152, q3608, by decide, by decide +kernel, (e_sig (by decide +kernel))⟩
theorem dX19_addSpace_0 : decode cX19_addSpace 0 = .ok (.aload_n 0, 1) := dc_42 (by decide +kernel)
theorem dX19_addSpace_1 : decode cX19_addSpace 1 = .ok (.aload_n 0, 1) := dc_42 (by decide +kernel)
theorem dX19_addSpace_2 : decode cX19_addSpace 2 = .ok (.aload_n 0, 1) := dc_42 (by decide +kernel)
theorem dX19_addSpace_3 : decode cX19_addSpace 3 = .ok (.getfield 37, 3) := dc_180 (a := 0) (b := 37) (n := 37) (by decide +kernel)
theorem dX19_addSpace_6 : decode cX19_addSpace 6 = .ok (.aload_n 0, 1) := dc_42 (by decide +kernel)
theorem dX19_addSpace_7 : decode cX19_addSpace 7 = .ok (.getfield 47, 3) := dc_180 (a := 0) (b := 47) (n := 47) (by decide +kernel)
theorem dX19_addSpace_10 : decode cX19_addSpace 10 = .ok (.invokevirtual 50, 3) := dc_182 (a := 0) (b := 50) (n := 50) (by decide +kernel)
theorem dX19_addSpace_13 : decode cX19_addSpace 13 = .ok (.putfield 37, 3) := dc_181 (a := 0) (b := 37) (n := 37) (by decide +kernel)
theorem dX19_addSpace_16 : decode cX19_addSpace 16 = .ok (.aload_n 0, 1) := dc_42 (by decide +kernel)
theorem dX19_addSpace_17 : decode cX19_addSpace 17 = .ok (.aload_n 0, 1) := dc_42 (by decide +kernel)
theorem dX19_addSpace_18 : decode cX19_addSpace 18 = .ok (.aload_n 0, 1) := dc_42 (by decide +kernel)
theorem dX19_addSpace_19 : decode cX19_addSpace 19 = .ok (.getfield 37, 3) := dc_180 (a := 0) (b := 37) (n := 37) (by decide +kernel)
theorem dX19_addSpace_22 : decode cX19_addSpace 22 = .ok (.iload_n 1, 1) := dc_27 (by decide +kernel)
theorem dX19_addSpace_23 : decode cX19_addSpace 23 = .ok (.i2l, 1) := dc_133 (by decide +kernel)
theorem dX19_addSpace_24 : decode cX19_addSpace 24 = .ok (.invokevirtual 50, 3) := dc_182 (a := 0) (b := 50) (n := 50) (by decide +kernel)
theorem dX19_addSpace_27 : decode cX19_addSpace 27 = .ok (.putfield 37, 3) := dc_181 (a := 0) (b := 37) (n := 37) (by decide +kernel)
theorem dX19_addSpace_30 : decode cX19_addSpace 30 = .ok (.aload_n 0, 1) := dc_42 (by decide +kernel)
theorem dX19_addSpace_31 : decode cX19_addSpace 31 = .ok (.lconst 0, 1) := dc_9 (by decide +kernel)
theorem dX19_addSpace_32 : decode cX19_addSpace 32 = .ok (.putfield 47, 3) := dc_181 (a := 0) (b := 47) (n := 47) (by decide +kernel)
theorem dX19_addSpace_35 : decode cX19_addSpace 35 = .ok (.return_, 1) := dc_177 (by decide +kernel)
def fX19_addSpace (this : Nat) (p0 : Int32) (h : eH) : Option (Unit × eH) :=
  (g_J 18 h this 6).bind fun x1 =>
  (g_J 18 h this 9).bind fun x3 =>
  (k_ok 18 h this).bind fun _ =>
  (fX19_sum this x1 x3 h).bind fun q6 =>
  (p_V 18 q6.2 this 6 (.long q6.1)).bind fun h7 =>
  (g_J 18 h7 this 6).bind fun x9 =>
  (k_ok 18 h7 this).bind fun _ =>
  (fX19_sum this x9 (p0).toInt64 h7).bind fun q12 =>
  (p_V 18 q12.2 this 6 (.long q12.1)).bind fun h13 =>
  (p_V 18 h13 this 9 (.long (0 : Int64))).bind fun h15 =>
  some ((), h15)
theorem pX19_addSpace {w : eW} {d : Nat} (hd : 2 ≤ d) {this : Nat} {p0 : Int32} {h : eH} {q} (hf : fX19_addSpace this p0 h = some q) : wm w d YX19_addSpace [.ref this, .int p0] h (e_is (e_rn c_V q)) := by
  obtain ⟨d, rfl⟩ : ∃ e, d = e + 1 := ⟨d - 1, by omega⟩
  show wp w (d + 1) YX19_addSpace 0 [some (.ref this), some (.int p0)] [] h _
  unfold fX19_addSpace at hf
  refine w_aload_n dX19_addSpace_0 rfl rfl ?_
  refine w_aload_n dX19_addSpace_1 rfl rfl ?_
  refine w_aload_n dX19_addSpace_2 rfl rfl ?_
  obtain ⟨x1, b2, hf⟩ := Option.bind_eq_some_iff.mp hf
  refine GX19_37 b2 dX19_addSpace_3 rfl ?_
  refine w_aload_n dX19_addSpace_6 rfl rfl ?_
  obtain ⟨x3, b4, hf⟩ := Option.bind_eq_some_iff.mp hf
  refine GX19_47 b4 dX19_addSpace_7 rfl ?_
  obtain ⟨_, b5, hf⟩ := Option.bind_eq_some_iff.mp hf
  refine x_cnJ hf (e_stV (Yc := YX19_sum) (ci := 18) (av := [.long x1, .long x3]) (st := [.ref this]) dX19_addSpace_10 q3589 mX19_sum rfl (k_ok_some b5).1 (k_ok_some b5).2) mX19_sum.2.2.1 mX19_sum.2.2.2.2.1 (Nat.le_of_ble_eq_true rfl) (Nat.le_of_ble_eq_true rfl) (fun q hq => pX19_sum (by omega) hq) (fun q6 hf => ?_)
  obtain ⟨h7, b8, hf⟩ := Option.bind_eq_some_iff.mp hf
  refine SX19_37 b8 dX19_addSpace_13 rfl ?_
  refine w_aload_n dX19_addSpace_16 rfl rfl ?_
  refine w_aload_n dX19_addSpace_17 rfl rfl ?_
  refine w_aload_n dX19_addSpace_18 rfl rfl ?_
  obtain ⟨x9, b10, hf⟩ := Option.bind_eq_some_iff.mp hf
  refine GX19_37 b10 dX19_addSpace_19 rfl ?_
  refine w_iload_n dX19_addSpace_22 rfl rfl ?_
  refine w_i2l dX19_addSpace_23 ?_
  obtain ⟨_, b11, hf⟩ := Option.bind_eq_some_iff.mp hf
  refine x_cnJ hf (e_stV (Yc := YX19_sum) (ci := 18) (av := [.long x9, .long (p0).toInt64]) (st := [.ref this]) dX19_addSpace_24 q3589 mX19_sum rfl (k_ok_some b11).1 (k_ok_some b11).2) mX19_sum.2.2.1 mX19_sum.2.2.2.2.1 (Nat.le_of_ble_eq_true rfl) (Nat.le_of_ble_eq_true rfl) (fun q hq => pX19_sum (by omega) hq) (fun q12 hf => ?_)
  obtain ⟨h13, b14, hf⟩ := Option.bind_eq_some_iff.mp hf
  refine SX19_37 b14 dX19_addSpace_27 rfl ?_
  refine w_aload_n dX19_addSpace_30 rfl rfl ?_
  refine w_lconst dX19_addSpace_31 (v := 0) (by decide) ?_
  obtain ⟨h15, b16, hf⟩ := Option.bind_eq_some_iff.mp hf
  refine SX19_47 b16 dX19_addSpace_32 rfl ?_
  cases hf
  exact w_vret dX19_addSpace_35 rfl rfl
abbrev cX19_addBox : ByteArray := prog_19_method_6_code
def yX19_addBox : MethodName := ⟨RX19, "addBox", "(LTypeHouse$Box;I)V"⟩
def YX19_addBox : eY := (yX19_addBox, cX19_addBox, 3, none, [])
theorem mX19_addBox : e_mv YX19_addBox RX19 2 := ⟨q3611, qs153, q3612, by decide, by decide +kernel, (e_sig (by decide +kernel))⟩
theorem dX19_addBox_0 : decode cX19_addBox 0 = .ok (.aload_n 0, 1) := dc_42 (by decide +kernel)
theorem dX19_addBox_1 : decode cX19_addBox 1 = .ok (.getfield 34, 3) := dc_180 (a := 0) (b := 34) (n := 34) (by decide +kernel)
theorem dX19_addBox_4 : decode cX19_addBox 4 = .ok (.ifCond .eq 46, 3) := dc_153 (a := 0) (b := 46) (v := 46) (by decide +kernel)
theorem dX19_addBox_7 : decode cX19_addBox 7 = .ok (.aload_n 0, 1) := dc_42 (by decide +kernel)
theorem dX19_addBox_8 : decode cX19_addBox 8 = .ok (.aload_n 1, 1) := dc_43 (by decide +kernel)
theorem dX19_addBox_9 : decode cX19_addBox 9 = .ok (.getfield 76, 3) := dc_180 (a := 0) (b := 76) (n := 76) (by decide +kernel)
theorem dX19_addBox_12 : decode cX19_addBox 12 = .ok (.aload_n 1, 1) := dc_43 (by decide +kernel)
theorem dX19_addBox_13 : decode cX19_addBox 13 = .ok (.getfield 82, 3) := dc_180 (a := 0) (b := 82) (n := 82) (by decide +kernel)
theorem dX19_addBox_16 : decode cX19_addBox 16 = .ok (.i2l, 1) := dc_133 (by decide +kernel)
theorem dX19_addBox_17 : decode cX19_addBox 17 = .ok (.aload_n 1, 1) := dc_43 (by decide +kernel)
theorem dX19_addBox_18 : decode cX19_addBox 18 = .ok (.getfield 85, 3) := dc_180 (a := 0) (b := 85) (n := 85) (by decide +kernel)
theorem dX19_addBox_21 : decode cX19_addBox 21 = .ok (.i2l, 1) := dc_133 (by decide +kernel)
theorem dX19_addBox_22 : decode cX19_addBox 22 = .ok (.invokevirtual 65, 3) := dc_182 (a := 0) (b := 65) (n := 65) (by decide +kernel)
theorem dX19_addBox_25 : decode cX19_addBox 25 = .ok (.aload_n 0, 1) := dc_42 (by decide +kernel)
theorem dX19_addBox_26 : decode cX19_addBox 26 = .ok (.aload_n 0, 1) := dc_42 (by decide +kernel)
theorem dX19_addBox_27 : decode cX19_addBox 27 = .ok (.getfield 41, 3) := dc_180 (a := 0) (b := 41) (n := 41) (by decide +kernel)
theorem dX19_addBox_30 : decode cX19_addBox 30 = .ok (.aload_n 0, 1) := dc_42 (by decide +kernel)
theorem dX19_addBox_31 : decode cX19_addBox 31 = .ok (.aload_n 1, 1) := dc_43 (by decide +kernel)
theorem dX19_addBox_32 : decode cX19_addBox 32 = .ok (.getfield 76, 3) := dc_180 (a := 0) (b := 76) (n := 76) (by decide +kernel)
theorem dX19_addBox_35 : decode cX19_addBox 35 = .ok (.i2l, 1) := dc_133 (by decide +kernel)
theorem dX19_addBox_36 : decode cX19_addBox 36 = .ok (.iload_n 2, 1) := dc_28 (by decide +kernel)
theorem dX19_addBox_37 : decode cX19_addBox 37 = .ok (.i2l, 1) := dc_133 (by decide +kernel)
theorem dX19_addBox_38 : decode cX19_addBox 38 = .ok (.invokevirtual 50, 3) := dc_182 (a := 0) (b := 50) (n := 50) (by decide +kernel)
theorem dX19_addBox_41 : decode cX19_addBox 41 = .ok (.invokestatic 54, 3) := dc_184 (a := 0) (b := 54) (n := 54) (by decide +kernel)
theorem dX19_addBox_44 : decode cX19_addBox 44 = .ok (.putfield 41, 3) := dc_181 (a := 0) (b := 41) (n := 41) (by decide +kernel)
theorem dX19_addBox_47 : decode cX19_addBox 47 = .ok (.goto 34, 3) := dc_167 (a := 0) (b := 34) (v := 34) (by decide +kernel)
theorem dX19_addBox_50 : decode cX19_addBox 50 = .ok (.aload_n 0, 1) := dc_42 (by decide +kernel)
theorem dX19_addBox_51 : decode cX19_addBox 51 = .ok (.aload_n 1, 1) := dc_43 (by decide +kernel)
theorem dX19_addBox_52 : decode cX19_addBox 52 = .ok (.getfield 76, 3) := dc_180 (a := 0) (b := 76) (n := 76) (by decide +kernel)
theorem dX19_addBox_55 : decode cX19_addBox 55 = .ok (.aload_n 0, 1) := dc_42 (by decide +kernel)
theorem dX19_addBox_56 : decode cX19_addBox 56 = .ok (.aload_n 1, 1) := dc_43 (by decide +kernel)
theorem dX19_addBox_57 : decode cX19_addBox 57 = .ok (.getfield 82, 3) := dc_180 (a := 0) (b := 82) (n := 82) (by decide +kernel)
theorem dX19_addBox_60 : decode cX19_addBox 60 = .ok (.i2l, 1) := dc_133 (by decide +kernel)
theorem dX19_addBox_61 : decode cX19_addBox 61 = .ok (.iload_n 2, 1) := dc_28 (by decide +kernel)
theorem dX19_addBox_62 : decode cX19_addBox 62 = .ok (.ineg, 1) := dc_116 (by decide +kernel)
theorem dX19_addBox_63 : decode cX19_addBox 63 = .ok (.i2l, 1) := dc_133 (by decide +kernel)
theorem dX19_addBox_64 : decode cX19_addBox 64 = .ok (.invokevirtual 50, 3) := dc_182 (a := 0) (b := 50) (n := 50) (by decide +kernel)
theorem dX19_addBox_67 : decode cX19_addBox 67 = .ok (.aload_n 0, 1) := dc_42 (by decide +kernel)
theorem dX19_addBox_68 : decode cX19_addBox 68 = .ok (.aload_n 1, 1) := dc_43 (by decide +kernel)
theorem dX19_addBox_69 : decode cX19_addBox 69 = .ok (.getfield 85, 3) := dc_180 (a := 0) (b := 85) (n := 85) (by decide +kernel)
theorem dX19_addBox_72 : decode cX19_addBox 72 = .ok (.i2l, 1) := dc_133 (by decide +kernel)
theorem dX19_addBox_73 : decode cX19_addBox 73 = .ok (.iload_n 2, 1) := dc_28 (by decide +kernel)
theorem dX19_addBox_74 : decode cX19_addBox 74 = .ok (.i2l, 1) := dc_133 (by decide +kernel)
theorem dX19_addBox_75 : decode cX19_addBox 75 = .ok (.invokevirtual 50, 3) := dc_182 (a := 0) (b := 50) (n := 50) (by decide +kernel)
theorem dX19_addBox_78 : decode cX19_addBox 78 = .ok (.invokevirtual 65, 3) := dc_182 (a := 0) (b := 65) (n := 65) (by decide +kernel)
theorem dX19_addBox_81 : decode cX19_addBox 81 = .ok (.return_, 1) := dc_177 (by decide +kernel)
theorem GX19_76 {w : eW} {d : Nat} {Y : eY} {pc : Nat} {ls : eL} {st : List Value} {h : eH} {Q : eO → eH → Prop} {a : Nat} {x : Int32} (hf : g_I 41 h a 3 = some x) (hd : decode Y.2.1 pc = .ok (.getfield 76, 3)) (hY : Y.1.cls = RX19) (kk : wp w d Y (pc + 3) ls (.int x :: st) h Q) : wp w d Y pc ls (.ref a :: st) h Q := x_gIN (ci := 41) (k := 3) hf hd rfl (by decide) (by rw [hY]; exact q3516) kk
theorem GX19_82 {w : eW} {d : Nat} {Y : eY} {pc : Nat} {ls : eL} {st : List Value} {h : eH} {Q : eO → eH → Prop} {a : Nat} {x : Int32} (hf : g_I 41 h a 4 = some x) (hd : decode Y.2.1 pc = .ok (.getfield 82, 3)) (hY : Y.1.cls = RX19) (kk : wp w d Y (pc + 3) ls (.int x :: st) h Q) : wp w d Y pc ls (.ref a :: st) h Q := x_gIN (ci := 41) (k := 4) hf hd rfl (by decide) (by rw [hY]; exact q3520) kk
theorem GX19_85 {w : eW} {d : Nat} {Y : eY} {pc : Nat} {ls : eL} {st : List Value} {h : eH} {Q : eO → eH → Prop} {a : Nat} {x : Int32} (hf : g_I 41 h a 5 = some x) (hd : decode Y.2.1 pc = .ok (.getfield 85, 3)) (hY : Y.1.cls = RX19) (kk : wp w d Y (pc + 3) ls (.int x :: st) h Q) : wp w d Y pc ls (.ref a :: st) h Q := x_gIN (ci := 41) (k := 5) hf hd rfl (by decide) (by rw [hY]; exact q3524) kk
def fX19_addBox_b81  (h : eH) : Option (Unit × eH) :=
  some ((), h)
theorem pX19_addBox_b81 {w : eW} {d : Nat} (hd : 3 ≤ d + 1)  {h : eH} {q} (hf : fX19_addBox_b81  h = some q) : wp w (d + 1) YX19_addBox 81 [none, none, none] [] h (e_is (e_rn c_V q)) := by
  unfold fX19_addBox_b81 at hf
  cases hf
  exact w_vret dX19_addBox_81 rfl rfl
def fX19_addBox (this : Nat) (p0 : Nat) (p1 : Int32) (h : eH) : Option (Unit × eH) :=
  (g_I 18 h this 5).bind fun x1 =>
  if x1 = 0 then
    (g_I 41 h p0 3).bind fun x4 =>
    (g_I 41 h p0 4).bind fun x6 =>
    (k_ok 18 h this).bind fun _ =>
    (fX19_sum this (x6).toInt64 ((-p1)).toInt64 h).bind fun q9 =>
    (g_I 41 q9.2 p0 5).bind fun x10 =>
    (k_ok 18 q9.2 this).bind fun _ =>
    (fX19_sum this (x10).toInt64 (p1).toInt64 q9.2).bind fun q13 =>
    (k_ok 18 q13.2 this).bind fun _ =>
    (fX19_addSolid this x4 q9.1 q13.1 q13.2).bind fun q15 =>
    fX19_addBox_b81 q15.2
  else
    (g_I 41 h p0 3).bind fun x16 =>
    (g_I 41 h p0 4).bind fun x18 =>
    (g_I 41 h p0 5).bind fun x20 =>
    (k_ok 18 h this).bind fun _ =>
    (fX19_addSolid this x16 (x18).toInt64 (x20).toInt64 h).bind fun q23 =>
    (g_J 18 q23.2 this 7).bind fun x24 =>
    (g_I 41 q23.2 p0 3).bind fun x26 =>
    (k_ok 18 q23.2 this).bind fun _ =>
    (fX19_sum this (x26).toInt64 (p1).toInt64 q23.2).bind fun q29 =>
    (p_V 18 q29.2 this 7 (.long (m_maxJ x24 q29.1))).bind fun h30 =>
    fX19_addBox_b81 h30
theorem pX19_addBox {w : eW} {d : Nat} (hd : 3 ≤ d) {this : Nat} {p0 : Nat} {p1 : Int32} {h : eH} {q} (hf : fX19_addBox this p0 p1 h = some q) : wm w d YX19_addBox [.ref this, .ref p0, .int p1] h (e_is (e_rn c_V q)) := by
  obtain ⟨d, rfl⟩ : ∃ e, d = e + 1 := ⟨d - 1, by omega⟩
  show wp w (d + 1) YX19_addBox 0 [some (.ref this), some (.ref p0), some (.int p1)] [] h _
  unfold fX19_addBox at hf
  refine w_aload_n dX19_addBox_0 rfl rfl ?_
  obtain ⟨x1, b2, hf⟩ := Option.bind_eq_some_iff.mp hf
  refine GX19_34 b2 dX19_addBox_1 rfl ?_
  refine w_if_eq 50 dX19_addBox_4 (by decide) (fun c3 => ?_) (fun c3 => ?_)
  · replace hf := (if_pos (show x1 = 0 from c3)).symm.trans hf
    refine w_aload_n dX19_addBox_50 rfl rfl ?_
    refine w_aload_n dX19_addBox_51 rfl rfl ?_
    obtain ⟨x4, b5, hf⟩ := Option.bind_eq_some_iff.mp hf
    refine GX19_76 b5 dX19_addBox_52 rfl ?_
    refine w_aload_n dX19_addBox_55 rfl rfl ?_
    refine w_aload_n dX19_addBox_56 rfl rfl ?_
    obtain ⟨x6, b7, hf⟩ := Option.bind_eq_some_iff.mp hf
    refine GX19_82 b7 dX19_addBox_57 rfl ?_
    refine w_i2l dX19_addBox_60 ?_
    refine w_iload_n dX19_addBox_61 rfl rfl ?_
    refine w_ineg dX19_addBox_62 ?_
    refine w_i2l dX19_addBox_63 ?_
    obtain ⟨_, b8, hf⟩ := Option.bind_eq_some_iff.mp hf
    refine x_cnJ hf (e_stV (Yc := YX19_sum) (ci := 18) (av := [.long (x6).toInt64, .long ((-p1)).toInt64]) (st := [.int x4, .ref this]) dX19_addBox_64 q3589 mX19_sum rfl (k_ok_some b8).1 (k_ok_some b8).2) mX19_sum.2.2.1 mX19_sum.2.2.2.2.1 (Nat.le_of_ble_eq_true rfl) (Nat.le_of_ble_eq_true rfl) (fun q hq => pX19_sum (by omega) hq) (fun q9 hf => ?_)
    refine w_aload_n dX19_addBox_67 rfl rfl ?_
    refine w_aload_n dX19_addBox_68 rfl rfl ?_
    obtain ⟨x10, b11, hf⟩ := Option.bind_eq_some_iff.mp hf
    refine GX19_85 b11 dX19_addBox_69 rfl ?_
    refine w_i2l dX19_addBox_72 ?_
    refine w_iload_n dX19_addBox_73 rfl rfl ?_
    refine w_i2l dX19_addBox_74 ?_
    obtain ⟨_, b12, hf⟩ := Option.bind_eq_some_iff.mp hf
    refine x_cnJ hf (e_stV (Yc := YX19_sum) (ci := 18) (av := [.long (x10).toInt64, .long (p1).toInt64]) (st := [.long q9.1, .int x4, .ref this]) dX19_addBox_75 q3589 mX19_sum rfl (k_ok_some b12).1 (k_ok_some b12).2) mX19_sum.2.2.1 mX19_sum.2.2.2.2.1 (Nat.le_of_ble_eq_true rfl) (Nat.le_of_ble_eq_true rfl) (fun q hq => pX19_sum (by omega) hq) (fun q13 hf => ?_)
    obtain ⟨_, b14, hf⟩ := Option.bind_eq_some_iff.mp hf
    refine x_cnV hf (e_stV (Yc := YX19_addSolid) (ci := 18) (av := [.int x4, .long q9.1, .long q13.1]) (st := []) dX19_addBox_78 q3585 mX19_addSolid rfl (k_ok_some b14).1 (k_ok_some b14).2) mX19_addSolid.2.2.1 mX19_addSolid.2.2.2.2.1 (Nat.le_of_ble_eq_true rfl) (Nat.le_of_ble_eq_true rfl) (fun q hq => pX19_addSolid (by omega) hq) (fun q15 hf => ?_)
    exact (pX19_addBox_b81 hd hf).to trivial
  · replace hf := (if_neg (show ¬ (x1 = 0) from c3)).symm.trans hf
    refine w_aload_n dX19_addBox_7 rfl rfl ?_
    refine w_aload_n dX19_addBox_8 rfl rfl ?_
    obtain ⟨x16, b17, hf⟩ := Option.bind_eq_some_iff.mp hf
    refine GX19_76 b17 dX19_addBox_9 rfl ?_
    refine w_aload_n dX19_addBox_12 rfl rfl ?_
    obtain ⟨x18, b19, hf⟩ := Option.bind_eq_some_iff.mp hf
    refine GX19_82 b19 dX19_addBox_13 rfl ?_
    refine w_i2l dX19_addBox_16 ?_
    refine w_aload_n dX19_addBox_17 rfl rfl ?_
    obtain ⟨x20, b21, hf⟩ := Option.bind_eq_some_iff.mp hf
    refine GX19_85 b21 dX19_addBox_18 rfl ?_
    refine w_i2l dX19_addBox_21 ?_
    obtain ⟨_, b22, hf⟩ := Option.bind_eq_some_iff.mp hf
    refine x_cnV hf (e_stV (Yc := YX19_addSolid) (ci := 18) (av := [.int x16, .long (x18).toInt64, .long (x20).toInt64]) (st := []) dX19_addBox_22 q3585 mX19_addSolid rfl (k_ok_some b22).1 (k_ok_some b22).2) mX19_addSolid.2.2.1 mX19_addSolid.2.2.2.2.1 (Nat.le_of_ble_eq_true rfl) (Nat.le_of_ble_eq_true rfl) (fun q hq => pX19_addSolid (by omega) hq) (fun q23 hf => ?_)
    refine w_aload_n dX19_addBox_25 rfl rfl ?_
    refine w_aload_n dX19_addBox_26 rfl rfl ?_
    obtain ⟨x24, b25, hf⟩ := Option.bind_eq_some_iff.mp hf
    refine GX19_41 b25 dX19_addBox_27 rfl ?_
    refine w_aload_n dX19_addBox_30 rfl rfl ?_
    refine w_aload_n dX19_addBox_31 rfl rfl ?_
    obtain ⟨x26, b27, hf⟩ := Option.bind_eq_some_iff.mp hf
    refine GX19_76 b27 dX19_addBox_32 rfl ?_
    refine w_i2l dX19_addBox_35 ?_
    refine w_iload_n dX19_addBox_36 rfl rfl ?_
    refine w_i2l dX19_addBox_37 ?_
    obtain ⟨_, b28, hf⟩ := Option.bind_eq_some_iff.mp hf
    refine x_cnJ hf (e_stV (Yc := YX19_sum) (ci := 18) (av := [.long (x26).toInt64, .long (p1).toInt64]) (st := [.long x24, .ref this]) dX19_addBox_38 q3589 mX19_sum rfl (k_ok_some b28).1 (k_ok_some b28).2) mX19_sum.2.2.1 mX19_sum.2.2.2.2.1 (Nat.le_of_ble_eq_true rfl) (Nat.le_of_ble_eq_true rfl) (fun q hq => pX19_sum (by omega) hq) (fun q29 hf => ?_)
    refine x_maxJ dX19_addBox_41 q3598 q3239 q478 q3240 (Nat.le_of_ble_eq_true rfl) ?_
    obtain ⟨h30, b31, hf⟩ := Option.bind_eq_some_iff.mp hf
    refine SX19_41 b31 dX19_addBox_44 rfl ?_
    refine w_goto 81 dX19_addBox_47 (by decide) ?_
    exact (pX19_addBox_b81 hd hf).to trivial
abbrev cX19_add : ByteArray := prog_19_method_8_code
def yX19_add : MethodName := ⟨RX19, "add", "(I)V"⟩
def YX19_add : eY := (yX19_add, cX19_add, 2, none, [])
theorem mX19_add : e_mv YX19_add RX19 1 := ⟨q3581, qs148, q3582, by decide, by decide +kernel, (e_sig (by decide +kernel))⟩
theorem dX19_add_0 : decode cX19_add 0 = .ok (.aload_n 0, 1) := dc_42 (by decide +kernel)
theorem dX19_add_1 : decode cX19_add 1 = .ok (.getfield 18, 3) := dc_180 (a := 0) (b := 18) (n := 18) (by decide +kernel)
theorem dX19_add_4 : decode cX19_add 4 = .ok (.iload_n 1, 1) := dc_27 (by decide +kernel)
theorem dX19_add_5 : decode cX19_add 5 = .ok (.invokevirtual 87, 3) := dc_182 (a := 0) (b := 87) (n := 87) (by decide +kernel)
theorem dX19_add_8 : decode cX19_add 8 = .ok (.tableswitch 220 0 3 #[32, 96, 104, 204], 32) := by decide +kernel
theorem dX19_add_40 : decode cX19_add 40 = .ok (.aload_n 0, 1) := dc_42 (by decide +kernel)
theorem dX19_add_41 : decode cX19_add 41 = .ok (.aload_n 0, 1) := dc_42 (by decide +kernel)
theorem dX19_add_42 : decode cX19_add 42 = .ok (.getfield 18, 3) := dc_180 (a := 0) (b := 18) (n := 18) (by decide +kernel)
theorem dX19_add_45 : decode cX19_add 45 = .ok (.iload_n 1, 1) := dc_27 (by decide +kernel)
theorem dX19_add_46 : decode cX19_add 46 = .ok (.iconst 1, 1) := dc_4 (by decide +kernel)
theorem dX19_add_47 : decode cX19_add 47 = .ok (.invokevirtual 73, 3) := dc_182 (a := 0) (b := 73) (n := 73) (by decide +kernel)
theorem dX19_add_50 : decode cX19_add 50 = .ok (.aload_n 0, 1) := dc_42 (by decide +kernel)
theorem dX19_add_51 : decode cX19_add 51 = .ok (.getfield 18, 3) := dc_180 (a := 0) (b := 18) (n := 18) (by decide +kernel)
theorem dX19_add_54 : decode cX19_add 54 = .ok (.iload_n 1, 1) := dc_27 (by decide +kernel)
theorem dX19_add_55 : decode cX19_add 55 = .ok (.iconst 2, 1) := dc_5 (by decide +kernel)
theorem dX19_add_56 : decode cX19_add 56 = .ok (.invokevirtual 73, 3) := dc_182 (a := 0) (b := 73) (n := 73) (by decide +kernel)
theorem dX19_add_59 : decode cX19_add 59 = .ok (.i2l, 1) := dc_133 (by decide +kernel)
theorem dX19_add_60 : decode cX19_add 60 = .ok (.aload_n 0, 1) := dc_42 (by decide +kernel)
theorem dX19_add_61 : decode cX19_add 61 = .ok (.getfield 18, 3) := dc_180 (a := 0) (b := 18) (n := 18) (by decide +kernel)
theorem dX19_add_64 : decode cX19_add 64 = .ok (.iload_n 1, 1) := dc_27 (by decide +kernel)
theorem dX19_add_65 : decode cX19_add 65 = .ok (.iconst 3, 1) := dc_6 (by decide +kernel)
theorem dX19_add_66 : decode cX19_add 66 = .ok (.invokevirtual 73, 3) := dc_182 (a := 0) (b := 73) (n := 73) (by decide +kernel)
theorem dX19_add_69 : decode cX19_add 69 = .ok (.i2l, 1) := dc_133 (by decide +kernel)
theorem dX19_add_70 : decode cX19_add 70 = .ok (.invokevirtual 65, 3) := dc_182 (a := 0) (b := 65) (n := 65) (by decide +kernel)
theorem dX19_add_73 : decode cX19_add 73 = .ok (.aload_n 0, 1) := dc_42 (by decide +kernel)
theorem dX19_add_74 : decode cX19_add 74 = .ok (.getfield 34, 3) := dc_180 (a := 0) (b := 34) (n := 34) (by decide +kernel)
theorem dX19_add_77 : decode cX19_add 77 = .ok (.ifCond .eq 178, 3) := dc_153 (a := 0) (b := 178) (v := 178) (by decide +kernel)
theorem dX19_add_80 : decode cX19_add 80 = .ok (.aload_n 0, 1) := dc_42 (by decide +kernel)
theorem dX19_add_81 : decode cX19_add 81 = .ok (.aload_n 0, 1) := dc_42 (by decide +kernel)
theorem dX19_add_82 : decode cX19_add 82 = .ok (.getfield 41, 3) := dc_180 (a := 0) (b := 41) (n := 41) (by decide +kernel)
theorem dX19_add_85 : decode cX19_add 85 = .ok (.aload_n 0, 1) := dc_42 (by decide +kernel)
theorem dX19_add_86 : decode cX19_add 86 = .ok (.getfield 18, 3) := dc_180 (a := 0) (b := 18) (n := 18) (by decide +kernel)
theorem dX19_add_89 : decode cX19_add 89 = .ok (.iload_n 1, 1) := dc_27 (by decide +kernel)
theorem dX19_add_90 : decode cX19_add 90 = .ok (.iconst 1, 1) := dc_4 (by decide +kernel)
theorem dX19_add_91 : decode cX19_add 91 = .ok (.invokevirtual 73, 3) := dc_182 (a := 0) (b := 73) (n := 73) (by decide +kernel)
theorem dX19_add_94 : decode cX19_add 94 = .ok (.i2l, 1) := dc_133 (by decide +kernel)
theorem dX19_add_95 : decode cX19_add 95 = .ok (.invokestatic 54, 3) := dc_184 (a := 0) (b := 54) (n := 54) (by decide +kernel)
theorem dX19_add_98 : decode cX19_add 98 = .ok (.putfield 41, 3) := dc_181 (a := 0) (b := 41) (n := 41) (by decide +kernel)
theorem dX19_add_101 : decode cX19_add 101 = .ok (.goto 154, 3) := dc_167 (a := 0) (b := 154) (v := 154) (by decide +kernel)
theorem dX19_add_104 : decode cX19_add 104 = .ok (.aload_n 0, 1) := dc_42 (by decide +kernel)
theorem dX19_add_105 : decode cX19_add 105 = .ok (.iload_n 1, 1) := dc_27 (by decide +kernel)
theorem dX19_add_106 : decode cX19_add 106 = .ok (.invokevirtual 91, 3) := dc_182 (a := 0) (b := 91) (n := 91) (by decide +kernel)
theorem dX19_add_109 : decode cX19_add 109 = .ok (.goto 146, 3) := dc_167 (a := 0) (b := 146) (v := 146) (by decide +kernel)
theorem dX19_add_112 : decode cX19_add 112 = .ok (.aload_n 0, 1) := dc_42 (by decide +kernel)
theorem dX19_add_113 : decode cX19_add 113 = .ok (.aload_n 0, 1) := dc_42 (by decide +kernel)
theorem dX19_add_114 : decode cX19_add 114 = .ok (.getfield 18, 3) := dc_180 (a := 0) (b := 18) (n := 18) (by decide +kernel)
theorem dX19_add_117 : decode cX19_add 117 = .ok (.iload_n 1, 1) := dc_27 (by decide +kernel)
theorem dX19_add_118 : decode cX19_add 118 = .ok (.iconst 0, 1) := dc_3 (by decide +kernel)
theorem dX19_add_119 : decode cX19_add 119 = .ok (.invokevirtual 73, 3) := dc_182 (a := 0) (b := 73) (n := 73) (by decide +kernel)
theorem dX19_add_122 : decode cX19_add 122 = .ok (.invokevirtual 95, 3) := dc_182 (a := 0) (b := 95) (n := 95) (by decide +kernel)
theorem dX19_add_125 : decode cX19_add 125 = .ok (.aload_n 0, 1) := dc_42 (by decide +kernel)
theorem dX19_add_126 : decode cX19_add 126 = .ok (.getfield 9, 3) := dc_180 (a := 0) (b := 9) (n := 9) (by decide +kernel)
theorem dX19_add_129 : decode cX19_add 129 = .ok (.aload_n 0, 1) := dc_42 (by decide +kernel)
theorem dX19_add_130 : decode cX19_add 130 = .ok (.getfield 18, 3) := dc_180 (a := 0) (b := 18) (n := 18) (by decide +kernel)
theorem dX19_add_133 : decode cX19_add 133 = .ok (.iload_n 1, 1) := dc_27 (by decide +kernel)
theorem dX19_add_134 : decode cX19_add 134 = .ok (.iconst 2, 1) := dc_5 (by decide +kernel)
theorem dX19_add_135 : decode cX19_add 135 = .ok (.invokevirtual 73, 3) := dc_182 (a := 0) (b := 73) (n := 73) (by decide +kernel)
theorem dX19_add_138 : decode cX19_add 138 = .ok (.aload_n 0, 1) := dc_42 (by decide +kernel)
theorem dX19_add_139 : decode cX19_add 139 = .ok (.aload_n 0, 1) := dc_42 (by decide +kernel)
theorem dX19_add_140 : decode cX19_add 140 = .ok (.getfield 9, 3) := dc_180 (a := 0) (b := 9) (n := 9) (by decide +kernel)
theorem dX19_add_143 : decode cX19_add 143 = .ok (.aload_n 0, 1) := dc_42 (by decide +kernel)
theorem dX19_add_144 : decode cX19_add 144 = .ok (.getfield 18, 3) := dc_180 (a := 0) (b := 18) (n := 18) (by decide +kernel)
theorem dX19_add_147 : decode cX19_add 147 = .ok (.iload_n 1, 1) := dc_27 (by decide +kernel)
theorem dX19_add_148 : decode cX19_add 148 = .ok (.iconst 2, 1) := dc_5 (by decide +kernel)
theorem dX19_add_149 : decode cX19_add 149 = .ok (.invokevirtual 73, 3) := dc_182 (a := 0) (b := 73) (n := 73) (by decide +kernel)
theorem dX19_add_152 : decode cX19_add 152 = .ok (.laload, 1) := dc_47 (by decide +kernel)
theorem dX19_add_153 : decode cX19_add 153 = .ok (.aload_n 0, 1) := dc_42 (by decide +kernel)
theorem dX19_add_154 : decode cX19_add 154 = .ok (.getfield 18, 3) := dc_180 (a := 0) (b := 18) (n := 18) (by decide +kernel)
theorem dX19_add_157 : decode cX19_add 157 = .ok (.iload_n 1, 1) := dc_27 (by decide +kernel)
theorem dX19_add_158 : decode cX19_add 158 = .ok (.iconst 1, 1) := dc_4 (by decide +kernel)
theorem dX19_add_159 : decode cX19_add 159 = .ok (.invokevirtual 73, 3) := dc_182 (a := 0) (b := 73) (n := 73) (by decide +kernel)
theorem dX19_add_162 : decode cX19_add 162 = .ok (.i2l, 1) := dc_133 (by decide +kernel)
theorem dX19_add_163 : decode cX19_add 163 = .ok (.invokevirtual 50, 3) := dc_182 (a := 0) (b := 50) (n := 50) (by decide +kernel)
theorem dX19_add_166 : decode cX19_add 166 = .ok (.lastore, 1) := dc_80 (by decide +kernel)
theorem dX19_add_167 : decode cX19_add 167 = .ok (.aload_n 0, 1) := dc_42 (by decide +kernel)
theorem dX19_add_168 : decode cX19_add 168 = .ok (.getfield 15, 3) := dc_180 (a := 0) (b := 15) (n := 15) (by decide +kernel)
theorem dX19_add_171 : decode cX19_add 171 = .ok (.aload_n 0, 1) := dc_42 (by decide +kernel)
theorem dX19_add_172 : decode cX19_add 172 = .ok (.getfield 18, 3) := dc_180 (a := 0) (b := 18) (n := 18) (by decide +kernel)
theorem dX19_add_175 : decode cX19_add 175 = .ok (.iload_n 1, 1) := dc_27 (by decide +kernel)
theorem dX19_add_176 : decode cX19_add 176 = .ok (.iconst 4, 1) := dc_7 (by decide +kernel)
theorem dX19_add_177 : decode cX19_add 177 = .ok (.invokevirtual 73, 3) := dc_182 (a := 0) (b := 73) (n := 73) (by decide +kernel)
theorem dX19_add_180 : decode cX19_add 180 = .ok (.aload_n 0, 1) := dc_42 (by decide +kernel)
theorem dX19_add_181 : decode cX19_add 181 = .ok (.aload_n 0, 1) := dc_42 (by decide +kernel)
theorem dX19_add_182 : decode cX19_add 182 = .ok (.getfield 15, 3) := dc_180 (a := 0) (b := 15) (n := 15) (by decide +kernel)
theorem dX19_add_185 : decode cX19_add 185 = .ok (.aload_n 0, 1) := dc_42 (by decide +kernel)
theorem dX19_add_186 : decode cX19_add 186 = .ok (.getfield 18, 3) := dc_180 (a := 0) (b := 18) (n := 18) (by decide +kernel)
theorem dX19_add_189 : decode cX19_add 189 = .ok (.iload_n 1, 1) := dc_27 (by decide +kernel)
theorem dX19_add_190 : decode cX19_add 190 = .ok (.iconst 4, 1) := dc_7 (by decide +kernel)
theorem dX19_add_191 : decode cX19_add 191 = .ok (.invokevirtual 73, 3) := dc_182 (a := 0) (b := 73) (n := 73) (by decide +kernel)
theorem dX19_add_194 : decode cX19_add 194 = .ok (.laload, 1) := dc_47 (by decide +kernel)
theorem dX19_add_195 : decode cX19_add 195 = .ok (.aload_n 0, 1) := dc_42 (by decide +kernel)
theorem dX19_add_196 : decode cX19_add 196 = .ok (.getfield 18, 3) := dc_180 (a := 0) (b := 18) (n := 18) (by decide +kernel)
theorem dX19_add_199 : decode cX19_add 199 = .ok (.iload_n 1, 1) := dc_27 (by decide +kernel)
theorem dX19_add_200 : decode cX19_add 200 = .ok (.iconst 3, 1) := dc_6 (by decide +kernel)
theorem dX19_add_201 : decode cX19_add 201 = .ok (.invokevirtual 73, 3) := dc_182 (a := 0) (b := 73) (n := 73) (by decide +kernel)
theorem dX19_add_204 : decode cX19_add 204 = .ok (.i2l, 1) := dc_133 (by decide +kernel)
theorem dX19_add_205 : decode cX19_add 205 = .ok (.invokevirtual 50, 3) := dc_182 (a := 0) (b := 50) (n := 50) (by decide +kernel)
theorem dX19_add_208 : decode cX19_add 208 = .ok (.lastore, 1) := dc_80 (by decide +kernel)
theorem dX19_add_209 : decode cX19_add 209 = .ok (.goto 46, 3) := dc_167 (a := 0) (b := 46) (v := 46) (by decide +kernel)
theorem dX19_add_212 : decode cX19_add 212 = .ok (.aload_n 0, 1) := dc_42 (by decide +kernel)
theorem dX19_add_213 : decode cX19_add 213 = .ok (.aload_n 0, 1) := dc_42 (by decide +kernel)
theorem dX19_add_214 : decode cX19_add 214 = .ok (.getfield 18, 3) := dc_180 (a := 0) (b := 18) (n := 18) (by decide +kernel)
theorem dX19_add_217 : decode cX19_add 217 = .ok (.iload_n 1, 1) := dc_27 (by decide +kernel)
theorem dX19_add_218 : decode cX19_add 218 = .ok (.iconst 0, 1) := dc_3 (by decide +kernel)
theorem dX19_add_219 : decode cX19_add 219 = .ok (.invokevirtual 73, 3) := dc_182 (a := 0) (b := 73) (n := 73) (by decide +kernel)
theorem dX19_add_222 : decode cX19_add 222 = .ok (.invokevirtual 95, 3) := dc_182 (a := 0) (b := 95) (n := 95) (by decide +kernel)
theorem dX19_add_225 : decode cX19_add 225 = .ok (.goto 30, 3) := dc_167 (a := 0) (b := 30) (v := 30) (by decide +kernel)
theorem dX19_add_228 : decode cX19_add 228 = .ok (.aload_n 0, 1) := dc_42 (by decide +kernel)
theorem dX19_add_229 : decode cX19_add 229 = .ok (.aload_n 0, 1) := dc_42 (by decide +kernel)
theorem dX19_add_230 : decode cX19_add 230 = .ok (.getfield 22, 3) := dc_180 (a := 0) (b := 22) (n := 22) (by decide +kernel)
theorem dX19_add_233 : decode cX19_add 233 = .ok (.aload_n 0, 1) := dc_42 (by decide +kernel)
theorem dX19_add_234 : decode cX19_add 234 = .ok (.getfield 18, 3) := dc_180 (a := 0) (b := 18) (n := 18) (by decide +kernel)
theorem dX19_add_237 : decode cX19_add 237 = .ok (.iload_n 1, 1) := dc_27 (by decide +kernel)
theorem dX19_add_238 : decode cX19_add 238 = .ok (.iconst 0, 1) := dc_3 (by decide +kernel)
theorem dX19_add_239 : decode cX19_add 239 = .ok (.invokevirtual 73, 3) := dc_182 (a := 0) (b := 73) (n := 73) (by decide +kernel)
theorem dX19_add_242 : decode cX19_add 242 = .ok (.aaload, 1) := dc_50 (by decide +kernel)
theorem dX19_add_243 : decode cX19_add 243 = .ok (.aload_n 0, 1) := dc_42 (by decide +kernel)
theorem dX19_add_244 : decode cX19_add 244 = .ok (.getfield 18, 3) := dc_180 (a := 0) (b := 18) (n := 18) (by decide +kernel)
theorem dX19_add_247 : decode cX19_add 247 = .ok (.iload_n 1, 1) := dc_27 (by decide +kernel)
theorem dX19_add_248 : decode cX19_add 248 = .ok (.iconst 1, 1) := dc_4 (by decide +kernel)
theorem dX19_add_249 : decode cX19_add 249 = .ok (.invokevirtual 73, 3) := dc_182 (a := 0) (b := 73) (n := 73) (by decide +kernel)
theorem dX19_add_252 : decode cX19_add 252 = .ok (.invokevirtual 98, 3) := dc_182 (a := 0) (b := 98) (n := 98) (by decide +kernel)
theorem dX19_add_255 : decode cX19_add 255 = .ok (.return_, 1) := dc_177 (by decide +kernel)
theorem GX19_22 {w : eW} {d : Nat} {Y : eY} {pc : Nat} {ls : eL} {st : List Value} {h : eH} {Q : eO → eH → Prop} {a : Nat} {x : Nat} (hf : g_A 18 h a 1 = some x) (hd : decode Y.2.1 pc = .ok (.getfield 22, 3)) (hY : Y.1.cls = RX19) (kk : wp w d Y (pc + 3) ls (.ref x :: st) h Q) : wp w d Y pc ls (.ref a :: st) h Q := x_gA (ci := 18) (k := 1) hf hd rfl (by decide) (by rw [hY]; exact q1164) kk
def fX19_add_b255  (h : eH) : Option (Unit × eH) :=
  some ((), h)
theorem pX19_add_b255 {w : eW} {d : Nat} (hd : 4 ≤ d + 1)  {h : eH} {q} (hf : fX19_add_b255  h = some q) : wp w (d + 1) YX19_add 255 [none, none] [] h (e_is (e_rn c_V q)) := by
  unfold fX19_add_b255 at hf
  cases hf
  exact w_vret dX19_add_255 rfl rfl
def fX19_add (this : Nat) (p0 : Int32) (h : eH) : Option (Unit × eH) :=
  (g_A 18 h this 0).bind fun a1 =>
  (k_ok 6 h a1).bind fun _ =>
  (fX7_kind a1 p0 h).bind fun q4 =>
  if q4.1 = (0 : Int32) then
    (g_A 18 q4.2 this 0).bind fun a6 =>
    (k_ok 6 q4.2 a6).bind fun _ =>
    (fX7_of a6 p0 (1 : Int32) q4.2).bind fun q9 =>
    (g_A 18 q9.2 this 0).bind fun a10 =>
    (k_ok 6 q9.2 a10).bind fun _ =>
    (fX7_of a10 p0 (2 : Int32) q9.2).bind fun q13 =>
    (g_A 18 q13.2 this 0).bind fun a14 =>
    (k_ok 6 q13.2 a14).bind fun _ =>
    (fX7_of a14 p0 (3 : Int32) q13.2).bind fun q17 =>
    (k_ok 18 q17.2 this).bind fun _ =>
    (fX19_addSolid this q9.1 (q13.1).toInt64 (q17.1).toInt64 q17.2).bind fun q19 =>
    (g_I 18 q19.2 this 5).bind fun x20 =>
    if x20 = 0 then
      fX19_add_b255 q19.2
    else
      (g_J 18 q19.2 this 7).bind fun x23 =>
      (g_A 18 q19.2 this 0).bind fun a25 =>
      (k_ok 6 q19.2 a25).bind fun _ =>
      (fX7_of a25 p0 (1 : Int32) q19.2).bind fun q28 =>
      (p_V 18 q28.2 this 7 (.long (m_maxJ x23 (q28.1).toInt64))).bind fun h29 =>
      fX19_add_b255 h29
  else
  if q4.1 = (1 : Int32) then
    (k_ok 18 q4.2 this).bind fun _ =>
    (fX19_addRule this p0 q4.2).bind fun q33 =>
    fX19_add_b255 q33.2
  else
  if q4.1 = (2 : Int32) then
    (g_A 18 q4.2 this 0).bind fun a35 =>
    (k_ok 6 q4.2 a35).bind fun _ =>
    (fX7_of a35 p0 (0 : Int32) q4.2).bind fun q38 =>
    (k_ok 18 q38.2 this).bind fun _ =>
    (fX19_addSpace this q38.1 q38.2).bind fun q40 =>
    (g_A 18 q40.2 this 2).bind fun a41 =>
    (g_A 18 q40.2 this 0).bind fun a43 =>
    (k_ok 6 q40.2 a43).bind fun _ =>
    (fX7_of a43 p0 (2 : Int32) q40.2).bind fun q46 =>
    (g_A 18 q46.2 this 2).bind fun a47 =>
    (g_A 18 q46.2 this 0).bind fun a49 =>
    (k_ok 6 q46.2 a49).bind fun _ =>
    (fX7_of a49 p0 (2 : Int32) q46.2).bind fun q52 =>
    (r_J q52.2 a47 q52.1).bind fun x53 =>
    (g_A 18 q52.2 this 0).bind fun a55 =>
    (k_ok 6 q52.2 a55).bind fun _ =>
    (fX7_of a55 p0 (1 : Int32) q52.2).bind fun q58 =>
    (k_ok 18 q58.2 this).bind fun _ =>
    (fX19_sum this x53 (q58.1).toInt64 q58.2).bind fun q60 =>
    (q_V 101 q60.2 a41 q46.1 (.long q60.1)).bind fun h61 =>
    (g_A 18 h61 this 3).bind fun a63 =>
    (g_A 18 h61 this 0).bind fun a65 =>
    (k_ok 6 h61 a65).bind fun _ =>
    (fX7_of a65 p0 (4 : Int32) h61).bind fun q68 =>
    (g_A 18 q68.2 this 3).bind fun a69 =>
    (g_A 18 q68.2 this 0).bind fun a71 =>
    (k_ok 6 q68.2 a71).bind fun _ =>
    (fX7_of a71 p0 (4 : Int32) q68.2).bind fun q74 =>
    (r_J q74.2 a69 q74.1).bind fun x75 =>
    (g_A 18 q74.2 this 0).bind fun a77 =>
    (k_ok 6 q74.2 a77).bind fun _ =>
    (fX7_of a77 p0 (3 : Int32) q74.2).bind fun q80 =>
    (k_ok 18 q80.2 this).bind fun _ =>
    (fX19_sum this x75 (q80.1).toInt64 q80.2).bind fun q82 =>
    (q_V 101 q82.2 a63 q68.1 (.long q82.1)).bind fun h83 =>
    fX19_add_b255 h83
  else
  if q4.1 = (3 : Int32) then
    (g_A 18 q4.2 this 0).bind fun a86 =>
    (k_ok 6 q4.2 a86).bind fun _ =>
    (fX7_of a86 p0 (0 : Int32) q4.2).bind fun q89 =>
    (k_ok 18 q89.2 this).bind fun _ =>
    (fX19_addSpace this q89.1 q89.2).bind fun q91 =>
    fX19_add_b255 q91.2
  else
  (g_A 18 q4.2 this 1).bind fun a92 =>
  (g_A 18 q4.2 this 0).bind fun a94 =>
  (k_ok 6 q4.2 a94).bind fun _ =>
  (fX7_of a94 p0 (0 : Int32) q4.2).bind fun q97 =>
  (r_A 104 q97.2 a92 q97.1).bind fun a98 =>
  (g_A 18 q97.2 this 0).bind fun a100 =>
  (k_ok 6 q97.2 a100).bind fun _ =>
  (fX7_of a100 p0 (1 : Int32) q97.2).bind fun q103 =>
  (k_ok 18 q103.2 this).bind fun _ =>
  (fX19_addBox this a98 q103.1 q103.2).bind fun q105 =>
  fX19_add_b255 q105.2
theorem pX19_add {w : eW} {d : Nat} (hd : 4 ≤ d) {this : Nat} {p0 : Int32} {h : eH} {q} (hf : fX19_add this p0 h = some q) : wm w d YX19_add [.ref this, .int p0] h (e_is (e_rn c_V q)) := by
  obtain ⟨d, rfl⟩ : ∃ e, d = e + 1 := ⟨d - 1, by omega⟩
  show wp w (d + 1) YX19_add 0 [some (.ref this), some (.int p0)] [] h _
  unfold fX19_add at hf
  refine w_aload_n dX19_add_0 rfl rfl ?_
  obtain ⟨a1, b2, hf⟩ := Option.bind_eq_some_iff.mp hf
  refine GX19_18 b2 dX19_add_1 rfl ?_
  refine w_iload_n dX19_add_4 rfl rfl ?_
  obtain ⟨_, b3, hf⟩ := Option.bind_eq_some_iff.mp hf
  refine x_cnI hf (e_stV (Yc := YX7_kind) (ci := 6) (av := [.int p0]) (st := []) dX19_add_5 q3583 mX7_kind rfl (k_ok_some b3).1 (k_ok_some b3).2) mX7_kind.2.2.1 mX7_kind.2.2.2.2.1 (Nat.le_of_ble_eq_true rfl) (Nat.le_of_ble_eq_true rfl) (fun q hq => pX7_kind (by omega) hq) (fun q4 hf => ?_)
  by_cases c5 : q4.1 = (0 : Int32)
  · replace hf := (if_pos c5).symm.trans hf
    refine w_tableIn 40 dX19_add_8 (by rw [c5]; decide) (by rw [c5]; decide) (by rw [c5]; rfl) (by decide) ?_
    refine w_aload_n dX19_add_40 rfl rfl ?_
    refine w_aload_n dX19_add_41 rfl rfl ?_
    obtain ⟨a6, b7, hf⟩ := Option.bind_eq_some_iff.mp hf
    refine GX19_18 b7 dX19_add_42 rfl ?_
    refine w_iload_n dX19_add_45 rfl rfl ?_
    refine w_iconst dX19_add_46 (v := 1) (by decide) ?_
    obtain ⟨_, b8, hf⟩ := Option.bind_eq_some_iff.mp hf
    refine x_cnI hf (e_stV (Yc := YX7_of) (ci := 6) (av := [.int p0, .int (1 : Int32)]) (st := [.ref this]) dX19_add_47 q3584 mX7_of rfl (k_ok_some b8).1 (k_ok_some b8).2) mX7_of.2.2.1 mX7_of.2.2.2.2.1 (Nat.le_of_ble_eq_true rfl) (Nat.le_of_ble_eq_true rfl) (fun q hq => pX7_of (by omega) hq) (fun q9 hf => ?_)
    refine w_aload_n dX19_add_50 rfl rfl ?_
    obtain ⟨a10, b11, hf⟩ := Option.bind_eq_some_iff.mp hf
    refine GX19_18 b11 dX19_add_51 rfl ?_
    refine w_iload_n dX19_add_54 rfl rfl ?_
    refine w_iconst dX19_add_55 (v := 2) (by decide) ?_
    obtain ⟨_, b12, hf⟩ := Option.bind_eq_some_iff.mp hf
    refine x_cnI hf (e_stV (Yc := YX7_of) (ci := 6) (av := [.int p0, .int (2 : Int32)]) (st := [.int q9.1, .ref this]) dX19_add_56 q3584 mX7_of rfl (k_ok_some b12).1 (k_ok_some b12).2) mX7_of.2.2.1 mX7_of.2.2.2.2.1 (Nat.le_of_ble_eq_true rfl) (Nat.le_of_ble_eq_true rfl) (fun q hq => pX7_of (by omega) hq) (fun q13 hf => ?_)
    refine w_i2l dX19_add_59 ?_
    refine w_aload_n dX19_add_60 rfl rfl ?_
    obtain ⟨a14, b15, hf⟩ := Option.bind_eq_some_iff.mp hf
    refine GX19_18 b15 dX19_add_61 rfl ?_
    refine w_iload_n dX19_add_64 rfl rfl ?_
    refine w_iconst dX19_add_65 (v := 3) (by decide) ?_
    obtain ⟨_, b16, hf⟩ := Option.bind_eq_some_iff.mp hf
    refine x_cnI hf (e_stV (Yc := YX7_of) (ci := 6) (av := [.int p0, .int (3 : Int32)]) (st := [.long (q13.1).toInt64, .int q9.1, .ref this]) dX19_add_66 q3584 mX7_of rfl (k_ok_some b16).1 (k_ok_some b16).2) mX7_of.2.2.1 mX7_of.2.2.2.2.1 (Nat.le_of_ble_eq_true rfl) (Nat.le_of_ble_eq_true rfl) (fun q hq => pX7_of (by omega) hq) (fun q17 hf => ?_)
    refine w_i2l dX19_add_69 ?_
    obtain ⟨_, b18, hf⟩ := Option.bind_eq_some_iff.mp hf
    refine x_cnV hf (e_stV (Yc := YX19_addSolid) (ci := 18) (av := [.int q9.1, .long (q13.1).toInt64, .long (q17.1).toInt64]) (st := []) dX19_add_70 q3585 mX19_addSolid rfl (k_ok_some b18).1 (k_ok_some b18).2) mX19_addSolid.2.2.1 mX19_addSolid.2.2.2.2.1 (Nat.le_of_ble_eq_true rfl) (Nat.le_of_ble_eq_true rfl) (fun q hq => pX19_addSolid (by omega) hq) (fun q19 hf => ?_)
    refine w_aload_n dX19_add_73 rfl rfl ?_
    obtain ⟨x20, b21, hf⟩ := Option.bind_eq_some_iff.mp hf
    refine GX19_34 b21 dX19_add_74 rfl ?_
    refine w_if_eq 255 dX19_add_77 (by decide) (fun c22 => ?_) (fun c22 => ?_)
    · replace hf := (if_pos (show x20 = 0 from c22)).symm.trans hf
      exact (pX19_add_b255 hd hf).to trivial
    · replace hf := (if_neg (show ¬ (x20 = 0) from c22)).symm.trans hf
      refine w_aload_n dX19_add_80 rfl rfl ?_
      refine w_aload_n dX19_add_81 rfl rfl ?_
      obtain ⟨x23, b24, hf⟩ := Option.bind_eq_some_iff.mp hf
      refine GX19_41 b24 dX19_add_82 rfl ?_
      refine w_aload_n dX19_add_85 rfl rfl ?_
      obtain ⟨a25, b26, hf⟩ := Option.bind_eq_some_iff.mp hf
      refine GX19_18 b26 dX19_add_86 rfl ?_
      refine w_iload_n dX19_add_89 rfl rfl ?_
      refine w_iconst dX19_add_90 (v := 1) (by decide) ?_
      obtain ⟨_, b27, hf⟩ := Option.bind_eq_some_iff.mp hf
      refine x_cnI hf (e_stV (Yc := YX7_of) (ci := 6) (av := [.int p0, .int (1 : Int32)]) (st := [.long x23, .ref this]) dX19_add_91 q3584 mX7_of rfl (k_ok_some b27).1 (k_ok_some b27).2) mX7_of.2.2.1 mX7_of.2.2.2.2.1 (Nat.le_of_ble_eq_true rfl) (Nat.le_of_ble_eq_true rfl) (fun q hq => pX7_of (by omega) hq) (fun q28 hf => ?_)
      refine w_i2l dX19_add_94 ?_
      refine x_maxJ dX19_add_95 q3598 q3239 q478 q3240 (Nat.le_of_ble_eq_true rfl) ?_
      obtain ⟨h29, b30, hf⟩ := Option.bind_eq_some_iff.mp hf
      refine SX19_41 b30 dX19_add_98 rfl ?_
      refine w_goto 255 dX19_add_101 (by decide) ?_
      exact (pX19_add_b255 hd hf).to trivial
  replace hf := (if_neg c5).symm.trans hf
  by_cases c31 : q4.1 = (1 : Int32)
  · replace hf := (if_pos c31).symm.trans hf
    refine w_tableIn 104 dX19_add_8 (by rw [c31]; decide) (by rw [c31]; decide) (by rw [c31]; rfl) (by decide) ?_
    refine w_aload_n dX19_add_104 rfl rfl ?_
    refine w_iload_n dX19_add_105 rfl rfl ?_
    obtain ⟨_, b32, hf⟩ := Option.bind_eq_some_iff.mp hf
    refine x_cnV hf (e_stV (Yc := YX19_addRule) (ci := 18) (av := [.int p0]) (st := []) dX19_add_106 q3599 mX19_addRule rfl (k_ok_some b32).1 (k_ok_some b32).2) mX19_addRule.2.2.1 mX19_addRule.2.2.2.2.1 (Nat.le_of_ble_eq_true rfl) (Nat.le_of_ble_eq_true rfl) (fun q hq => pX19_addRule (by omega) hq) (fun q33 hf => ?_)
    refine w_goto 255 dX19_add_109 (by decide) ?_
    exact (pX19_add_b255 hd hf).to trivial
  replace hf := (if_neg c31).symm.trans hf
  by_cases c34 : q4.1 = (2 : Int32)
  · replace hf := (if_pos c34).symm.trans hf
    refine w_tableIn 112 dX19_add_8 (by rw [c34]; decide) (by rw [c34]; decide) (by rw [c34]; rfl) (by decide) ?_
    refine w_aload_n dX19_add_112 rfl rfl ?_
    refine w_aload_n dX19_add_113 rfl rfl ?_
    obtain ⟨a35, b36, hf⟩ := Option.bind_eq_some_iff.mp hf
    refine GX19_18 b36 dX19_add_114 rfl ?_
    refine w_iload_n dX19_add_117 rfl rfl ?_
    refine w_iconst dX19_add_118 (v := 0) (by decide) ?_
    obtain ⟨_, b37, hf⟩ := Option.bind_eq_some_iff.mp hf
    refine x_cnI hf (e_stV (Yc := YX7_of) (ci := 6) (av := [.int p0, .int (0 : Int32)]) (st := [.ref this]) dX19_add_119 q3584 mX7_of rfl (k_ok_some b37).1 (k_ok_some b37).2) mX7_of.2.2.1 mX7_of.2.2.2.2.1 (Nat.le_of_ble_eq_true rfl) (Nat.le_of_ble_eq_true rfl) (fun q hq => pX7_of (by omega) hq) (fun q38 hf => ?_)
    obtain ⟨_, b39, hf⟩ := Option.bind_eq_some_iff.mp hf
    refine x_cnV hf (e_stV (Yc := YX19_addSpace) (ci := 18) (av := [.int q38.1]) (st := []) dX19_add_122 q3605 mX19_addSpace rfl (k_ok_some b39).1 (k_ok_some b39).2) mX19_addSpace.2.2.1 mX19_addSpace.2.2.2.2.1 (Nat.le_of_ble_eq_true rfl) (Nat.le_of_ble_eq_true rfl) (fun q hq => pX19_addSpace (by omega) hq) (fun q40 hf => ?_)
    refine w_aload_n dX19_add_125 rfl rfl ?_
    obtain ⟨a41, b42, hf⟩ := Option.bind_eq_some_iff.mp hf
    refine GX19_9 b42 dX19_add_126 rfl ?_
    refine w_aload_n dX19_add_129 rfl rfl ?_
    obtain ⟨a43, b44, hf⟩ := Option.bind_eq_some_iff.mp hf
    refine GX19_18 b44 dX19_add_130 rfl ?_
    refine w_iload_n dX19_add_133 rfl rfl ?_
    refine w_iconst dX19_add_134 (v := 2) (by decide) ?_
    obtain ⟨_, b45, hf⟩ := Option.bind_eq_some_iff.mp hf
    refine x_cnI hf (e_stV (Yc := YX7_of) (ci := 6) (av := [.int p0, .int (2 : Int32)]) (st := [.ref a41]) dX19_add_135 q3584 mX7_of rfl (k_ok_some b45).1 (k_ok_some b45).2) mX7_of.2.2.1 mX7_of.2.2.2.2.1 (Nat.le_of_ble_eq_true rfl) (Nat.le_of_ble_eq_true rfl) (fun q hq => pX7_of (by omega) hq) (fun q46 hf => ?_)
    refine w_aload_n dX19_add_138 rfl rfl ?_
    refine w_aload_n dX19_add_139 rfl rfl ?_
    obtain ⟨a47, b48, hf⟩ := Option.bind_eq_some_iff.mp hf
    refine GX19_9 b48 dX19_add_140 rfl ?_
    refine w_aload_n dX19_add_143 rfl rfl ?_
    obtain ⟨a49, b50, hf⟩ := Option.bind_eq_some_iff.mp hf
    refine GX19_18 b50 dX19_add_144 rfl ?_
    refine w_iload_n dX19_add_147 rfl rfl ?_
    refine w_iconst dX19_add_148 (v := 2) (by decide) ?_
    obtain ⟨_, b51, hf⟩ := Option.bind_eq_some_iff.mp hf
    refine x_cnI hf (e_stV (Yc := YX7_of) (ci := 6) (av := [.int p0, .int (2 : Int32)]) (st := [.ref a47, .ref this, .int q46.1, .ref a41]) dX19_add_149 q3584 mX7_of rfl (k_ok_some b51).1 (k_ok_some b51).2) mX7_of.2.2.1 mX7_of.2.2.2.2.1 (Nat.le_of_ble_eq_true rfl) (Nat.le_of_ble_eq_true rfl) (fun q hq => pX7_of (by omega) hq) (fun q52 hf => ?_)
    obtain ⟨x53, b54, hf⟩ := Option.bind_eq_some_iff.mp hf
    refine x_rJ b54 dX19_add_152 ?_
    refine w_aload_n dX19_add_153 rfl rfl ?_
    obtain ⟨a55, b56, hf⟩ := Option.bind_eq_some_iff.mp hf
    refine GX19_18 b56 dX19_add_154 rfl ?_
    refine w_iload_n dX19_add_157 rfl rfl ?_
    refine w_iconst dX19_add_158 (v := 1) (by decide) ?_
    obtain ⟨_, b57, hf⟩ := Option.bind_eq_some_iff.mp hf
    refine x_cnI hf (e_stV (Yc := YX7_of) (ci := 6) (av := [.int p0, .int (1 : Int32)]) (st := [.long x53, .ref this, .int q46.1, .ref a41]) dX19_add_159 q3584 mX7_of rfl (k_ok_some b57).1 (k_ok_some b57).2) mX7_of.2.2.1 mX7_of.2.2.2.2.1 (Nat.le_of_ble_eq_true rfl) (Nat.le_of_ble_eq_true rfl) (fun q hq => pX7_of (by omega) hq) (fun q58 hf => ?_)
    refine w_i2l dX19_add_162 ?_
    obtain ⟨_, b59, hf⟩ := Option.bind_eq_some_iff.mp hf
    refine x_cnJ hf (e_stV (Yc := YX19_sum) (ci := 18) (av := [.long x53, .long (q58.1).toInt64]) (st := [.int q46.1, .ref a41]) dX19_add_163 q3589 mX19_sum rfl (k_ok_some b59).1 (k_ok_some b59).2) mX19_sum.2.2.1 mX19_sum.2.2.2.2.1 (Nat.le_of_ble_eq_true rfl) (Nat.le_of_ble_eq_true rfl) (fun q hq => pX19_sum (by omega) hq) (fun q60 hf => ?_)
    obtain ⟨h61, b62, hf⟩ := Option.bind_eq_some_iff.mp hf
    refine x_qJ b62 dX19_add_166 ?_
    refine w_aload_n dX19_add_167 rfl rfl ?_
    obtain ⟨a63, b64, hf⟩ := Option.bind_eq_some_iff.mp hf
    refine GX19_15 b64 dX19_add_168 rfl ?_
    refine w_aload_n dX19_add_171 rfl rfl ?_
    obtain ⟨a65, b66, hf⟩ := Option.bind_eq_some_iff.mp hf
    refine GX19_18 b66 dX19_add_172 rfl ?_
    refine w_iload_n dX19_add_175 rfl rfl ?_
    refine w_iconst dX19_add_176 (v := 4) (by decide) ?_
    obtain ⟨_, b67, hf⟩ := Option.bind_eq_some_iff.mp hf
    refine x_cnI hf (e_stV (Yc := YX7_of) (ci := 6) (av := [.int p0, .int (4 : Int32)]) (st := [.ref a63]) dX19_add_177 q3584 mX7_of rfl (k_ok_some b67).1 (k_ok_some b67).2) mX7_of.2.2.1 mX7_of.2.2.2.2.1 (Nat.le_of_ble_eq_true rfl) (Nat.le_of_ble_eq_true rfl) (fun q hq => pX7_of (by omega) hq) (fun q68 hf => ?_)
    refine w_aload_n dX19_add_180 rfl rfl ?_
    refine w_aload_n dX19_add_181 rfl rfl ?_
    obtain ⟨a69, b70, hf⟩ := Option.bind_eq_some_iff.mp hf
    refine GX19_15 b70 dX19_add_182 rfl ?_
    refine w_aload_n dX19_add_185 rfl rfl ?_
    obtain ⟨a71, b72, hf⟩ := Option.bind_eq_some_iff.mp hf
    refine GX19_18 b72 dX19_add_186 rfl ?_
    refine w_iload_n dX19_add_189 rfl rfl ?_
    refine w_iconst dX19_add_190 (v := 4) (by decide) ?_
    obtain ⟨_, b73, hf⟩ := Option.bind_eq_some_iff.mp hf
    refine x_cnI hf (e_stV (Yc := YX7_of) (ci := 6) (av := [.int p0, .int (4 : Int32)]) (st := [.ref a69, .ref this, .int q68.1, .ref a63]) dX19_add_191 q3584 mX7_of rfl (k_ok_some b73).1 (k_ok_some b73).2) mX7_of.2.2.1 mX7_of.2.2.2.2.1 (Nat.le_of_ble_eq_true rfl) (Nat.le_of_ble_eq_true rfl) (fun q hq => pX7_of (by omega) hq) (fun q74 hf => ?_)
    obtain ⟨x75, b76, hf⟩ := Option.bind_eq_some_iff.mp hf
    refine x_rJ b76 dX19_add_194 ?_
    refine w_aload_n dX19_add_195 rfl rfl ?_
    obtain ⟨a77, b78, hf⟩ := Option.bind_eq_some_iff.mp hf
    refine GX19_18 b78 dX19_add_196 rfl ?_
    refine w_iload_n dX19_add_199 rfl rfl ?_
    refine w_iconst dX19_add_200 (v := 3) (by decide) ?_
    obtain ⟨_, b79, hf⟩ := Option.bind_eq_some_iff.mp hf
    refine x_cnI hf (e_stV (Yc := YX7_of) (ci := 6) (av := [.int p0, .int (3 : Int32)]) (st := [.long x75, .ref this, .int q68.1, .ref a63]) dX19_add_201 q3584 mX7_of rfl (k_ok_some b79).1 (k_ok_some b79).2) mX7_of.2.2.1 mX7_of.2.2.2.2.1 (Nat.le_of_ble_eq_true rfl) (Nat.le_of_ble_eq_true rfl) (fun q hq => pX7_of (by omega) hq) (fun q80 hf => ?_)
    refine w_i2l dX19_add_204 ?_
    obtain ⟨_, b81, hf⟩ := Option.bind_eq_some_iff.mp hf
    refine x_cnJ hf (e_stV (Yc := YX19_sum) (ci := 18) (av := [.long x75, .long (q80.1).toInt64]) (st := [.int q68.1, .ref a63]) dX19_add_205 q3589 mX19_sum rfl (k_ok_some b81).1 (k_ok_some b81).2) mX19_sum.2.2.1 mX19_sum.2.2.2.2.1 (Nat.le_of_ble_eq_true rfl) (Nat.le_of_ble_eq_true rfl) (fun q hq => pX19_sum (by omega) hq) (fun q82 hf => ?_)
    obtain ⟨h83, b84, hf⟩ := Option.bind_eq_some_iff.mp hf
    refine x_qJ b84 dX19_add_208 ?_
    refine w_goto 255 dX19_add_209 (by decide) ?_
    exact (pX19_add_b255 hd hf).to trivial
  replace hf := (if_neg c34).symm.trans hf
  by_cases c85 : q4.1 = (3 : Int32)
  · replace hf := (if_pos c85).symm.trans hf
    refine w_tableIn 212 dX19_add_8 (by rw [c85]; decide) (by rw [c85]; decide) (by rw [c85]; rfl) (by decide) ?_
    refine w_aload_n dX19_add_212 rfl rfl ?_
    refine w_aload_n dX19_add_213 rfl rfl ?_
    obtain ⟨a86, b87, hf⟩ := Option.bind_eq_some_iff.mp hf
    refine GX19_18 b87 dX19_add_214 rfl ?_
    refine w_iload_n dX19_add_217 rfl rfl ?_
    refine w_iconst dX19_add_218 (v := 0) (by decide) ?_
    obtain ⟨_, b88, hf⟩ := Option.bind_eq_some_iff.mp hf
    refine x_cnI hf (e_stV (Yc := YX7_of) (ci := 6) (av := [.int p0, .int (0 : Int32)]) (st := [.ref this]) dX19_add_219 q3584 mX7_of rfl (k_ok_some b88).1 (k_ok_some b88).2) mX7_of.2.2.1 mX7_of.2.2.2.2.1 (Nat.le_of_ble_eq_true rfl) (Nat.le_of_ble_eq_true rfl) (fun q hq => pX7_of (by omega) hq) (fun q89 hf => ?_)
    obtain ⟨_, b90, hf⟩ := Option.bind_eq_some_iff.mp hf
    refine x_cnV hf (e_stV (Yc := YX19_addSpace) (ci := 18) (av := [.int q89.1]) (st := []) dX19_add_222 q3605 mX19_addSpace rfl (k_ok_some b90).1 (k_ok_some b90).2) mX19_addSpace.2.2.1 mX19_addSpace.2.2.2.2.1 (Nat.le_of_ble_eq_true rfl) (Nat.le_of_ble_eq_true rfl) (fun q hq => pX19_addSpace (by omega) hq) (fun q91 hf => ?_)
    refine w_goto 255 dX19_add_225 (by decide) ?_
    exact (pX19_add_b255 hd hf).to trivial
  replace hf := (if_neg c85).symm.trans hf
  refine w_tableOut 228 dX19_add_8 (by have n0 := sw_ne c5 (by decide : (0 : Int32).toInt = 0); have n1 := sw_ne c31 (by decide : (1 : Int32).toInt = 1); have n2 := sw_ne c34 (by decide : (2 : Int32).toInt = 2); have n3 := sw_ne c85 (by decide : (3 : Int32).toInt = 3); omega) (by decide) ?_
  refine w_aload_n dX19_add_228 rfl rfl ?_
  refine w_aload_n dX19_add_229 rfl rfl ?_
  obtain ⟨a92, b93, hf⟩ := Option.bind_eq_some_iff.mp hf
  refine GX19_22 b93 dX19_add_230 rfl ?_
  refine w_aload_n dX19_add_233 rfl rfl ?_
  obtain ⟨a94, b95, hf⟩ := Option.bind_eq_some_iff.mp hf
  refine GX19_18 b95 dX19_add_234 rfl ?_
  refine w_iload_n dX19_add_237 rfl rfl ?_
  refine w_iconst dX19_add_238 (v := 0) (by decide) ?_
  obtain ⟨_, b96, hf⟩ := Option.bind_eq_some_iff.mp hf
  refine x_cnI hf (e_stV (Yc := YX7_of) (ci := 6) (av := [.int p0, .int (0 : Int32)]) (st := [.ref a92, .ref this]) dX19_add_239 q3584 mX7_of rfl (k_ok_some b96).1 (k_ok_some b96).2) mX7_of.2.2.1 mX7_of.2.2.2.2.1 (Nat.le_of_ble_eq_true rfl) (Nat.le_of_ble_eq_true rfl) (fun q hq => pX7_of (by omega) hq) (fun q97 hf => ?_)
  obtain ⟨a98, b99, hf⟩ := Option.bind_eq_some_iff.mp hf
  refine x_rA (c := 104) (by decide) b99 dX19_add_242 ?_
  refine w_aload_n dX19_add_243 rfl rfl ?_
  obtain ⟨a100, b101, hf⟩ := Option.bind_eq_some_iff.mp hf
  refine GX19_18 b101 dX19_add_244 rfl ?_
  refine w_iload_n dX19_add_247 rfl rfl ?_
  refine w_iconst dX19_add_248 (v := 1) (by decide) ?_
  obtain ⟨_, b102, hf⟩ := Option.bind_eq_some_iff.mp hf
  refine x_cnI hf (e_stV (Yc := YX7_of) (ci := 6) (av := [.int p0, .int (1 : Int32)]) (st := [.ref a98, .ref this]) dX19_add_249 q3584 mX7_of rfl (k_ok_some b102).1 (k_ok_some b102).2) mX7_of.2.2.1 mX7_of.2.2.2.2.1 (Nat.le_of_ble_eq_true rfl) (Nat.le_of_ble_eq_true rfl) (fun q hq => pX7_of (by omega) hq) (fun q103 hf => ?_)
  obtain ⟨_, b104, hf⟩ := Option.bind_eq_some_iff.mp hf
  refine x_cnV hf (e_stV (Yc := YX19_addBox) (ci := 18) (av := [.ref a98, .int q103.1]) (st := []) dX19_add_252 q3609 mX19_addBox rfl (k_ok_some b104).1 (k_ok_some b104).2) mX19_addBox.2.2.1 mX19_addBox.2.2.2.2.1 (Nat.le_of_ble_eq_true rfl) (Nat.le_of_ble_eq_true rfl) (fun q hq => pX19_addBox (by omega) hq) (fun q105 hf => ?_)
  exact (pX19_add_b255 hd hf).to trivial
abbrev cX19_highest : ByteArray := prog_19_method_9_code
def yX19_highest : MethodName := ⟨RX19, "highest", "([J)I"⟩
def YX19_highest : eY := (yX19_highest, cX19_highest, 2, (Option.some FieldType.int), [])
theorem mX19_highest : e_ms YX19_highest 1 := ⟨q3621, q445, q3622, by decide, by decide +kernel, (e_sig (by decide +kernel))⟩
theorem dX19_highest_0 : decode cX19_highest 0 = .ok (.iconst 3, 1) := dc_6 (by decide +kernel)
theorem dX19_highest_1 : decode cX19_highest 1 = .ok (.istore_n 1, 1) := dc_60 (by decide +kernel)
theorem dX19_highest_2 : decode cX19_highest 2 = .ok (.iload_n 1, 1) := dc_27 (by decide +kernel)
theorem dX19_highest_3 : decode cX19_highest 3 = .ok (.ifCond .le 17, 3) := dc_158 (a := 0) (b := 17) (v := 17) (by decide +kernel)
theorem dX19_highest_6 : decode cX19_highest 6 = .ok (.aload_n 0, 1) := dc_42 (by decide +kernel)
theorem dX19_highest_7 : decode cX19_highest 7 = .ok (.iload_n 1, 1) := dc_27 (by decide +kernel)
theorem dX19_highest_8 : decode cX19_highest 8 = .ok (.laload, 1) := dc_47 (by decide +kernel)
theorem dX19_highest_9 : decode cX19_highest 9 = .ok (.lconst 0, 1) := dc_9 (by decide +kernel)
theorem dX19_highest_10 : decode cX19_highest 10 = .ok (.lcmp, 1) := dc_148 (by decide +kernel)
theorem dX19_highest_11 : decode cX19_highest 11 = .ok (.ifCond .ne 9, 3) := dc_154 (a := 0) (b := 9) (v := 9) (by decide +kernel)
theorem dX19_highest_14 : decode cX19_highest 14 = .ok (.iinc 1 (-1), 3) := dc_132 (a := 1) (b := 255) (v := -1) (by decide +kernel)
theorem dX19_highest_17 : decode cX19_highest 17 = .ok (.goto (-15), 3) := dc_167 (a := 255) (b := 241) (v := -15) (by decide +kernel)
theorem dX19_highest_20 : decode cX19_highest 20 = .ok (.iload_n 1, 1) := dc_27 (by decide +kernel)
theorem dX19_highest_21 : decode cX19_highest 21 = .ok (.ireturn, 1) := dc_172 (by decide +kernel)
def fX19_highest_b20 (N : Nat) (l1 : Int32) (h : eH) : Option (Int32 × eH) :=
  some (l1, h)
theorem pX19_highest_b20 {w : eW} {d : Nat} (hd : 0 ≤ d) {N : Nat} {l1 : Int32} {h : eH} {q} (hf : fX19_highest_b20 N l1 h = some q) : wp w d YX19_highest 20 [none, some (.int l1)] [] h (e_is (e_rn c_I q)) := by
  unfold fX19_highest_b20 at hf
  refine w_iload_n dX19_highest_20 rfl rfl ?_
  cases hf
  exact w_iret dX19_highest_21 rfl rfl rfl
def fX19_highest_b2 (N : Nat) : Nat → Nat → Int32 → eH → Option (Int32 × eH)
  | 0, _, _, _ => none
  | n + 1, l0, l1, h =>
    if l1 ≤ 0 then
      fX19_highest_b20 N l1 h
    else
      (r_J h l0 l1).bind fun x2 =>
      if ¬ (lg_cmp x2 (0 : Int64)) = 0 then
        fX19_highest_b20 N l1 h
      else
        fX19_highest_b2 N n l0 (l1 + (-1 : Int32)) h
theorem pX19_highest_b2 {w : eW} {d : Nat} (hd : 0 ≤ d) {N : Nat} : ∀ (n : Nat) l0 l1 h q, fX19_highest_b2 N n l0 l1 h = some q → wp w d YX19_highest 2 [some (.ref l0), some (.int l1)] [] h (e_is (e_rn c_I q)) := by
  intro n
  induction n with
  | zero => intro l0 l1 h q hf; simp [fX19_highest_b2] at hf
  | succ n ih =>
    intro l0 l1 h q hf
    rw [fX19_highest_b2] at hf
    refine w_iload_n dX19_highest_2 rfl rfl ?_
    refine w_if_le 20 dX19_highest_3 (by decide) (fun c1 => ?_) (fun c1 => ?_)
    · replace hf := (if_pos (show l1 ≤ 0 from c1)).symm.trans hf
      exact (pX19_highest_b20 hd hf).to ⟨rfl, trivial⟩
    · replace hf := (if_neg (show ¬ (l1 ≤ 0) from c1)).symm.trans hf
      refine w_aload_n dX19_highest_6 rfl rfl ?_
      refine w_iload_n dX19_highest_7 rfl rfl ?_
      obtain ⟨x2, b3, hf⟩ := Option.bind_eq_some_iff.mp hf
      refine x_rJ b3 dX19_highest_8 ?_
      refine w_lconst dX19_highest_9 (v := 0) (by decide) ?_
      refine w_lcmp dX19_highest_10 ?_
      refine w_if_ne 20 dX19_highest_11 (by decide) (fun c4 => ?_) (fun c4 => ?_)
      · replace hf := (if_pos (show ¬ (lg_cmp x2 (0 : Int64)) = 0 from c4)).symm.trans hf
        exact (pX19_highest_b20 hd hf).to ⟨rfl, trivial⟩
      · replace hf := (if_neg (show ¬ (¬ (lg_cmp x2 (0 : Int64)) = 0) from (fun z => z c4))).symm.trans hf
        refine w_iinc dX19_highest_14 (v := (l1 + (-1 : Int32))) rfl rfl (by decide) (ls' := [some (.ref l0), some (.int (l1 + (-1 : Int32)))]) rfl ?_
        refine w_goto 2 dX19_highest_17 (by decide) ?_
        exact (ih _ _ _ _ hf).to ⟨rfl, rfl, trivial⟩
def fX19_highest (N : Nat) (p0 : Nat) (h : eH) : Option (Int32 × eH) :=
  fX19_highest_b2 N N p0 (3 : Int32) h
theorem pX19_highest {w : eW} {d : Nat} (hd : 0 ≤ d) {N : Nat} {p0 : Nat} {h : eH} {q} (hf : fX19_highest N p0 h = some q) : wm w d YX19_highest [.ref p0] h (e_is (e_rn c_I q)) := by
  show wp w d YX19_highest 0 [some (.ref p0), none] [] h _
  unfold fX19_highest at hf
  refine w_iconst dX19_highest_0 (v := 3) (by decide) ?_
  refine w_istore_n dX19_highest_1 rfl (by decide) (ls' := [some (.ref p0), some (.int (3 : Int32))]) rfl ?_
  exact (pX19_highest_b2 hd N _ _ _ _ hf).to ⟨rfl, rfl, trivial⟩
abbrev cX19_badness : ByteArray := prog_19_method_10_code
def yX19_badness : MethodName := ⟨RX19, "badness", "(JJ)I"⟩
def YX19_badness : eY := (yX19_badness, cX19_badness, 6, (Option.some FieldType.int), [])
theorem mX19_badness : e_ms YX19_badness 2 := ⟨q3625, q445, q3626, by decide, by decide +kernel, (e_sig (by decide +kernel))⟩
theorem dX19_badness_0 : decode cX19_badness 0 = .ok (.lload_n 0, 1) := dc_30 (by decide +kernel)
theorem dX19_badness_1 : decode cX19_badness 1 = .ok (.lconst 0, 1) := dc_9 (by decide +kernel)
theorem dX19_badness_2 : decode cX19_badness 2 = .ok (.lcmp, 1) := dc_148 (by decide +kernel)
theorem dX19_badness_3 : decode cX19_badness 3 = .ok (.ifCond .ne 5, 3) := dc_154 (a := 0) (b := 5) (v := 5) (by decide +kernel)
theorem dX19_badness_6 : decode cX19_badness 6 = .ok (.iconst 0, 1) := dc_3 (by decide +kernel)
theorem dX19_badness_7 : decode cX19_badness 7 = .ok (.ireturn, 1) := dc_172 (by decide +kernel)
theorem dX19_badness_8 : decode cX19_badness 8 = .ok (.lload_n 2, 1) := dc_32 (by decide +kernel)
theorem dX19_badness_9 : decode cX19_badness 9 = .ok (.lconst 0, 1) := dc_9 (by decide +kernel)
theorem dX19_badness_10 : decode cX19_badness 10 = .ok (.lcmp, 1) := dc_148 (by decide +kernel)
theorem dX19_badness_11 : decode cX19_badness 11 = .ok (.ifCond .ne 7, 3) := dc_154 (a := 0) (b := 7) (v := 7) (by decide +kernel)
theorem dX19_badness_14 : decode cX19_badness 14 = .ok (.sipush 10000, 3) := dc_17 (a := 39) (b := 16) (v := 10000) (by decide +kernel)
theorem dX19_badness_17 : decode cX19_badness 17 = .ok (.ireturn, 1) := dc_172 (by decide +kernel)
theorem dX19_badness_18 : decode cX19_badness 18 = .ok (.lload_n 0, 1) := dc_30 (by decide +kernel)
theorem dX19_badness_19 : decode cX19_badness 19 = .ok (.ldc2_w 102, 3) := dc_20 (a := 0) (b := 102) (n := 102) (by decide +kernel)
theorem dX19_badness_22 : decode cX19_badness 22 = .ok (.lcmp, 1) := dc_148 (by decide +kernel)
theorem dX19_badness_23 : decode cX19_badness 23 = .ok (.ifCond .gt 13, 3) := dc_157 (a := 0) (b := 13) (v := 13) (by decide +kernel)
theorem dX19_badness_26 : decode cX19_badness 26 = .ok (.ldc2_w 104, 3) := dc_20 (a := 0) (b := 104) (n := 104) (by decide +kernel)
theorem dX19_badness_29 : decode cX19_badness 29 = .ok (.lload_n 0, 1) := dc_30 (by decide +kernel)
theorem dX19_badness_30 : decode cX19_badness 30 = .ok (.lmul, 1) := dc_105 (by decide +kernel)
theorem dX19_badness_31 : decode cX19_badness 31 = .ok (.lload_n 2, 1) := dc_32 (by decide +kernel)
theorem dX19_badness_32 : decode cX19_badness 32 = .ok (.ldiv, 1) := dc_109 (by decide +kernel)
theorem dX19_badness_33 : decode cX19_badness 33 = .ok (.goto 22, 3) := dc_167 (a := 0) (b := 22) (v := 22) (by decide +kernel)
theorem dX19_badness_36 : decode cX19_badness 36 = .ok (.lload_n 2, 1) := dc_32 (by decide +kernel)
theorem dX19_badness_37 : decode cX19_badness 37 = .ok (.ldc2_w 106, 3) := dc_20 (a := 0) (b := 106) (n := 106) (by decide +kernel)
theorem dX19_badness_40 : decode cX19_badness 40 = .ok (.lcmp, 1) := dc_148 (by decide +kernel)
theorem dX19_badness_41 : decode cX19_badness 41 = .ok (.ifCond .lt 13, 3) := dc_155 (a := 0) (b := 13) (v := 13) (by decide +kernel)
theorem dX19_badness_44 : decode cX19_badness 44 = .ok (.lload_n 0, 1) := dc_30 (by decide +kernel)
theorem dX19_badness_45 : decode cX19_badness 45 = .ok (.lload_n 2, 1) := dc_32 (by decide +kernel)
theorem dX19_badness_46 : decode cX19_badness 46 = .ok (.ldc2_w 104, 3) := dc_20 (a := 0) (b := 104) (n := 104) (by decide +kernel)
theorem dX19_badness_49 : decode cX19_badness 49 = .ok (.ldiv, 1) := dc_109 (by decide +kernel)
theorem dX19_badness_50 : decode cX19_badness 50 = .ok (.ldiv, 1) := dc_109 (by decide +kernel)
theorem dX19_badness_51 : decode cX19_badness 51 = .ok (.goto 4, 3) := dc_167 (a := 0) (b := 4) (v := 4) (by decide +kernel)
theorem dX19_badness_54 : decode cX19_badness 54 = .ok (.lload_n 0, 1) := dc_30 (by decide +kernel)
theorem dX19_badness_55 : decode cX19_badness 55 = .ok (.lstore 4, 2) := dc_55 (a := 4) (by decide +kernel)
theorem dX19_badness_57 : decode cX19_badness 57 = .ok (.lload 4, 2) := dc_22 (a := 4) (by decide +kernel)
theorem dX19_badness_59 : decode cX19_badness 59 = .ok (.ldc2_w 108, 3) := dc_20 (a := 0) (b := 108) (n := 108) (by decide +kernel)
theorem dX19_badness_62 : decode cX19_badness 62 = .ok (.lcmp, 1) := dc_148 (by decide +kernel)
theorem dX19_badness_63 : decode cX19_badness 63 = .ok (.ifCond .le 9, 3) := dc_158 (a := 0) (b := 9) (v := 9) (by decide +kernel)
theorem dX19_badness_66 : decode cX19_badness 66 = .ok (.sipush 10000, 3) := dc_17 (a := 39) (b := 16) (v := 10000) (by decide +kernel)
theorem dX19_badness_69 : decode cX19_badness 69 = .ok (.goto 20, 3) := dc_167 (a := 0) (b := 20) (v := 20) (by decide +kernel)
theorem dX19_badness_72 : decode cX19_badness 72 = .ok (.lload 4, 2) := dc_22 (a := 4) (by decide +kernel)
theorem dX19_badness_74 : decode cX19_badness 74 = .ok (.lload 4, 2) := dc_22 (a := 4) (by decide +kernel)
theorem dX19_badness_76 : decode cX19_badness 76 = .ok (.lmul, 1) := dc_105 (by decide +kernel)
theorem dX19_badness_77 : decode cX19_badness 77 = .ok (.lload 4, 2) := dc_22 (a := 4) (by decide +kernel)
theorem dX19_badness_79 : decode cX19_badness 79 = .ok (.lmul, 1) := dc_105 (by decide +kernel)
theorem dX19_badness_80 : decode cX19_badness 80 = .ok (.ldc2_w 110, 3) := dc_20 (a := 0) (b := 110) (n := 110) (by decide +kernel)
theorem dX19_badness_83 : decode cX19_badness 83 = .ok (.ladd, 1) := dc_97 (by decide +kernel)
theorem dX19_badness_84 : decode cX19_badness 84 = .ok (.ldc2_w 112, 3) := dc_20 (a := 0) (b := 112) (n := 112) (by decide +kernel)
theorem dX19_badness_87 : decode cX19_badness 87 = .ok (.ldiv, 1) := dc_109 (by decide +kernel)
theorem dX19_badness_88 : decode cX19_badness 88 = .ok (.l2i, 1) := dc_136 (by decide +kernel)
theorem dX19_badness_89 : decode cX19_badness 89 = .ok (.ireturn, 1) := dc_172 (by decide +kernel)
def fX19_badness_b89 (s0 : Int32) (h : eH) : Option (Int32 × eH) :=
  some (s0, h)
theorem pX19_badness_b89 {w : eW} {d : Nat} (hd : 0 ≤ d) {s0 : Int32} {h : eH} {q} (hf : fX19_badness_b89 s0 h = some q) : wp w d YX19_badness 89 [none, none, none, none, none, none] [.int s0] h (e_is (e_rn c_I q)) := by
  unfold fX19_badness_b89 at hf
  cases hf
  exact w_iret dX19_badness_89 rfl rfl rfl
def fX19_badness_b55 (s0 : Int64) (h : eH) : Option (Int32 × eH) :=
  if (lg_cmp s0 (1290 : Int64)) ≤ 0 then
    fX19_badness_b89 (((((s0 * s0) * s0) + (131072 : Int64)) / (262144 : Int64))).toInt32 h
  else
    fX19_badness_b89 (10000 : Int32) h
theorem pX19_badness_b55 {w : eW} {d : Nat} (hd : 0 ≤ d) {s0 : Int64} {h : eH} {q} (hf : fX19_badness_b55 s0 h = some q) : wp w d YX19_badness 55 [none, none, none, none, none, none] [.long s0] h (e_is (e_rn c_I q)) := by
  unfold fX19_badness_b55 at hf
  refine w_lstore dX19_badness_55 (by decide) (ls' := [none, none, none, none, some (.long s0), none]) rfl ?_
  refine w_lload dX19_badness_57 rfl ?_
  refine w_ldc2 dX19_badness_59 q3630 ?_
  refine w_lcmp dX19_badness_62 ?_
  refine w_if_le 72 dX19_badness_63 (by decide) (fun c1 => ?_) (fun c1 => ?_)
  · replace hf := (if_pos (show (lg_cmp s0 (1290 : Int64)) ≤ 0 from c1)).symm.trans hf
    refine w_lload dX19_badness_72 rfl ?_
    refine w_lload dX19_badness_74 rfl ?_
    refine w_lmul dX19_badness_76 ?_
    refine w_lload dX19_badness_77 rfl ?_
    refine w_lmul dX19_badness_79 ?_
    refine w_ldc2 dX19_badness_80 q3631 ?_
    refine w_ladd dX19_badness_83 ?_
    refine w_ldc2 dX19_badness_84 q3632 ?_
    refine w_ldiv dX19_badness_87 (by decide) ?_
    refine w_l2i dX19_badness_88 ?_
    exact (pX19_badness_b89 hd hf).to trivial
  · replace hf := (if_neg (show ¬ ((lg_cmp s0 (1290 : Int64)) ≤ 0) from c1)).symm.trans hf
    refine w_sipush dX19_badness_66 (v := 10000) (by decide) ?_
    refine w_goto 89 dX19_badness_69 (by decide) ?_
    exact (pX19_badness_b89 hd hf).to trivial
def fX19_badness (p0 : Int64) (p1 : Int64) (h : eH) : Option (Int32 × eH) :=
  if ¬ (lg_cmp p0 (0 : Int64)) = 0 then
    if ¬ (lg_cmp p1 (0 : Int64)) = 0 then
      if 0 < (lg_cmp p0 (7230584 : Int64)) then
        if (lg_cmp p1 (1663497 : Int64)) < 0 then
          fX19_badness_b55 p0 h
        else
          if (p1 / (297 : Int64)) = 0 then none else
          fX19_badness_b55 (p0 / (p1 / (297 : Int64))) h
      else
        if p1 = 0 then none else
        fX19_badness_b55 (((297 : Int64) * p0) / p1) h
    else
      some ((10000 : Int32), h)
  else
    some ((0 : Int32), h)
theorem pX19_badness {w : eW} {d : Nat} (hd : 0 ≤ d) {p0 : Int64} {p1 : Int64} {h : eH} {q} (hf : fX19_badness p0 p1 h = some q) : wm w d YX19_badness [.long p0, .long p1] h (e_is (e_rn c_I q)) := by
  show wp w d YX19_badness 0 [some (.long p0), none, some (.long p1), none, none, none] [] h _
  unfold fX19_badness at hf
  refine w_lload_n dX19_badness_0 rfl rfl ?_
  refine w_lconst dX19_badness_1 (v := 0) (by decide) ?_
  refine w_lcmp dX19_badness_2 ?_
  refine w_if_ne 8 dX19_badness_3 (by decide) (fun c1 => ?_) (fun c1 => ?_)
  · replace hf := (if_pos (show ¬ (lg_cmp p0 (0 : Int64)) = 0 from c1)).symm.trans hf
    refine w_lload_n dX19_badness_8 rfl rfl ?_
    refine w_lconst dX19_badness_9 (v := 0) (by decide) ?_
    refine w_lcmp dX19_badness_10 ?_
    refine w_if_ne 18 dX19_badness_11 (by decide) (fun c2 => ?_) (fun c2 => ?_)
    · replace hf := (if_pos (show ¬ (lg_cmp p1 (0 : Int64)) = 0 from c2)).symm.trans hf
      refine w_lload_n dX19_badness_18 rfl rfl ?_
      refine w_ldc2 dX19_badness_19 q3627 ?_
      refine w_lcmp dX19_badness_22 ?_
      refine w_if_gt 36 dX19_badness_23 (by decide) (fun c3 => ?_) (fun c3 => ?_)
      · replace hf := (if_pos (show 0 < (lg_cmp p0 (7230584 : Int64)) from c3)).symm.trans hf
        refine w_lload_n dX19_badness_36 rfl rfl ?_
        refine w_ldc2 dX19_badness_37 q3629 ?_
        refine w_lcmp dX19_badness_40 ?_
        refine w_if_lt 54 dX19_badness_41 (by decide) (fun c4 => ?_) (fun c4 => ?_)
        · replace hf := (if_pos (show (lg_cmp p1 (1663497 : Int64)) < 0 from c4)).symm.trans hf
          refine w_lload_n dX19_badness_54 rfl rfl ?_
          exact (pX19_badness_b55 hd hf).to trivial
        · replace hf := (if_neg (show ¬ ((lg_cmp p1 (1663497 : Int64)) < 0) from c4)).symm.trans hf
          refine w_lload_n dX19_badness_44 rfl rfl ?_
          refine w_lload_n dX19_badness_45 rfl rfl ?_
          refine w_ldc2 dX19_badness_46 q3628 ?_
          refine w_ldiv dX19_badness_49 (by decide) ?_
          by_cases c5 : (p1 / (297 : Int64)) = 0
          · exact absurd ((if_pos c5).symm.trans hf) (by simp)
          replace hf := (if_neg c5).symm.trans hf
          refine w_ldiv dX19_badness_50 c5 ?_
          refine w_goto 55 dX19_badness_51 (by decide) ?_
          exact (pX19_badness_b55 hd hf).to trivial
      · replace hf := (if_neg (show ¬ (0 < (lg_cmp p0 (7230584 : Int64))) from c3)).symm.trans hf
        refine w_ldc2 dX19_badness_26 q3628 ?_
        refine w_lload_n dX19_badness_29 rfl rfl ?_
        refine w_lmul dX19_badness_30 ?_
        refine w_lload_n dX19_badness_31 rfl rfl ?_
        by_cases c6 : p1 = 0
        · exact absurd ((if_pos c6).symm.trans hf) (by simp)
        replace hf := (if_neg c6).symm.trans hf
        refine w_ldiv dX19_badness_32 c6 ?_
        refine w_goto 55 dX19_badness_33 (by decide) ?_
        exact (pX19_badness_b55 hd hf).to trivial
    · replace hf := (if_neg (show ¬ (¬ (lg_cmp p1 (0 : Int64)) = 0) from (fun z => z c2))).symm.trans hf
      refine w_sipush dX19_badness_14 (v := 10000) (by decide) ?_
      cases hf
      exact w_iret dX19_badness_17 rfl rfl rfl
  · replace hf := (if_neg (show ¬ (¬ (lg_cmp p0 (0 : Int64)) = 0) from (fun z => z c1))).symm.trans hf
    refine w_iconst dX19_badness_6 (v := 0) (by decide) ?_
    cases hf
    exact w_iret dX19_badness_7 rfl rfl rfl
abbrev cX19_setGlue : ByteArray := prog_19_method_11_code
def yX19_setGlue : MethodName := ⟨RX19, "setGlue", "(LTypeHouse$Box;J)V"⟩
def YX19_setGlue : eY := (yX19_setGlue, cX19_setGlue, 8, none, [])
theorem mX19_setGlue : e_mv YX19_setGlue RX19 2 := ⟨q3618, qs154, q3619, by decide, by decide +kernel, (e_sig (by decide +kernel))⟩
theorem dX19_setGlue_0 : decode cX19_setGlue 0 = .ok (.aload_n 1, 1) := dc_43 (by decide +kernel)
theorem dX19_setGlue_1 : decode cX19_setGlue 1 = .ok (.lload_n 2, 1) := dc_32 (by decide +kernel)
theorem dX19_setGlue_2 : decode cX19_setGlue 2 = .ok (.l2i, 1) := dc_136 (by decide +kernel)
theorem dX19_setGlue_3 : decode cX19_setGlue 3 = .ok (.putfield 114, 3) := dc_181 (a := 0) (b := 114) (n := 114) (by decide +kernel)
theorem dX19_setGlue_6 : decode cX19_setGlue 6 = .ok (.lload_n 2, 1) := dc_32 (by decide +kernel)
theorem dX19_setGlue_7 : decode cX19_setGlue 7 = .ok (.lconst 0, 1) := dc_9 (by decide +kernel)
theorem dX19_setGlue_8 : decode cX19_setGlue 8 = .ok (.lcmp, 1) := dc_148 (by decide +kernel)
theorem dX19_setGlue_9 : decode cX19_setGlue 9 = .ok (.ifCond .ge 10, 3) := dc_156 (a := 0) (b := 10) (v := 10) (by decide +kernel)
theorem dX19_setGlue_12 : decode cX19_setGlue 12 = .ok (.aload_n 0, 1) := dc_42 (by decide +kernel)
theorem dX19_setGlue_13 : decode cX19_setGlue 13 = .ok (.getfield 15, 3) := dc_180 (a := 0) (b := 15) (n := 15) (by decide +kernel)
theorem dX19_setGlue_16 : decode cX19_setGlue 16 = .ok (.goto 7, 3) := dc_167 (a := 0) (b := 7) (v := 7) (by decide +kernel)
theorem dX19_setGlue_19 : decode cX19_setGlue 19 = .ok (.aload_n 0, 1) := dc_42 (by decide +kernel)
theorem dX19_setGlue_20 : decode cX19_setGlue 20 = .ok (.getfield 9, 3) := dc_180 (a := 0) (b := 9) (n := 9) (by decide +kernel)
theorem dX19_setGlue_23 : decode cX19_setGlue 23 = .ok (.astore 4, 2) := dc_58 (a := 4) (by decide +kernel)
theorem dX19_setGlue_25 : decode cX19_setGlue 25 = .ok (.aload_n 1, 1) := dc_43 (by decide +kernel)
theorem dX19_setGlue_26 : decode cX19_setGlue 26 = .ok (.lload_n 2, 1) := dc_32 (by decide +kernel)
theorem dX19_setGlue_27 : decode cX19_setGlue 27 = .ok (.lconst 0, 1) := dc_9 (by decide +kernel)
theorem dX19_setGlue_28 : decode cX19_setGlue 28 = .ok (.lcmp, 1) := dc_148 (by decide +kernel)
theorem dX19_setGlue_29 : decode cX19_setGlue 29 = .ok (.ifCond .ne 7, 3) := dc_154 (a := 0) (b := 7) (v := 7) (by decide +kernel)
theorem dX19_setGlue_32 : decode cX19_setGlue 32 = .ok (.iconst 0, 1) := dc_3 (by decide +kernel)
theorem dX19_setGlue_33 : decode cX19_setGlue 33 = .ok (.goto 8, 3) := dc_167 (a := 0) (b := 8) (v := 8) (by decide +kernel)
theorem dX19_setGlue_36 : decode cX19_setGlue 36 = .ok (.aload 4, 2) := dc_25 (a := 4) (by decide +kernel)
theorem dX19_setGlue_38 : decode cX19_setGlue 38 = .ok (.invokestatic 117, 3) := dc_184 (a := 0) (b := 117) (n := 117) (by decide +kernel)
theorem dX19_setGlue_41 : decode cX19_setGlue 41 = .ok (.putfield 121, 3) := dc_181 (a := 0) (b := 121) (n := 121) (by decide +kernel)
theorem dX19_setGlue_44 : decode cX19_setGlue 44 = .ok (.aload_n 1, 1) := dc_43 (by decide +kernel)
theorem dX19_setGlue_45 : decode cX19_setGlue 45 = .ok (.lload_n 2, 1) := dc_32 (by decide +kernel)
theorem dX19_setGlue_46 : decode cX19_setGlue 46 = .ok (.lconst 0, 1) := dc_9 (by decide +kernel)
theorem dX19_setGlue_47 : decode cX19_setGlue 47 = .ok (.lcmp, 1) := dc_148 (by decide +kernel)
theorem dX19_setGlue_48 : decode cX19_setGlue 48 = .ok (.ifCond .ne 7, 3) := dc_154 (a := 0) (b := 7) (v := 7) (by decide +kernel)
theorem dX19_setGlue_51 : decode cX19_setGlue 51 = .ok (.iconst 0, 1) := dc_3 (by decide +kernel)
theorem dX19_setGlue_52 : decode cX19_setGlue 52 = .ok (.goto 11, 3) := dc_167 (a := 0) (b := 11) (v := 11) (by decide +kernel)
theorem dX19_setGlue_55 : decode cX19_setGlue 55 = .ok (.aload 4, 2) := dc_25 (a := 4) (by decide +kernel)
theorem dX19_setGlue_57 : decode cX19_setGlue 57 = .ok (.aload_n 1, 1) := dc_43 (by decide +kernel)
theorem dX19_setGlue_58 : decode cX19_setGlue 58 = .ok (.getfield 121, 3) := dc_180 (a := 0) (b := 121) (n := 121) (by decide +kernel)
theorem dX19_setGlue_61 : decode cX19_setGlue 61 = .ok (.laload, 1) := dc_47 (by decide +kernel)
theorem dX19_setGlue_62 : decode cX19_setGlue 62 = .ok (.l2i, 1) := dc_136 (by decide +kernel)
theorem dX19_setGlue_63 : decode cX19_setGlue 63 = .ok (.putfield 124, 3) := dc_181 (a := 0) (b := 124) (n := 124) (by decide +kernel)
theorem dX19_setGlue_66 : decode cX19_setGlue 66 = .ok (.lload_n 2, 1) := dc_32 (by decide +kernel)
theorem dX19_setGlue_67 : decode cX19_setGlue 67 = .ok (.lconst 0, 1) := dc_9 (by decide +kernel)
theorem dX19_setGlue_68 : decode cX19_setGlue 68 = .ok (.lcmp, 1) := dc_148 (by decide +kernel)
theorem dX19_setGlue_69 : decode cX19_setGlue 69 = .ok (.ifCond .ge 8, 3) := dc_156 (a := 0) (b := 8) (v := 8) (by decide +kernel)
theorem dX19_setGlue_72 : decode cX19_setGlue 72 = .ok (.lload_n 2, 1) := dc_32 (by decide +kernel)
theorem dX19_setGlue_73 : decode cX19_setGlue 73 = .ok (.lneg, 1) := dc_117 (by decide +kernel)
theorem dX19_setGlue_74 : decode cX19_setGlue 74 = .ok (.goto 4, 3) := dc_167 (a := 0) (b := 4) (v := 4) (by decide +kernel)
theorem dX19_setGlue_77 : decode cX19_setGlue 77 = .ok (.lload_n 2, 1) := dc_32 (by decide +kernel)
theorem dX19_setGlue_78 : decode cX19_setGlue 78 = .ok (.lstore 5, 2) := dc_55 (a := 5) (by decide +kernel)
theorem dX19_setGlue_80 : decode cX19_setGlue 80 = .ok (.lload_n 2, 1) := dc_32 (by decide +kernel)
theorem dX19_setGlue_81 : decode cX19_setGlue 81 = .ok (.lconst 0, 1) := dc_9 (by decide +kernel)
theorem dX19_setGlue_82 : decode cX19_setGlue 82 = .ok (.lcmp, 1) := dc_148 (by decide +kernel)
theorem dX19_setGlue_83 : decode cX19_setGlue 83 = .ok (.ifCond .ge 25, 3) := dc_156 (a := 0) (b := 25) (v := 25) (by decide +kernel)
theorem dX19_setGlue_86 : decode cX19_setGlue 86 = .ok (.aload_n 1, 1) := dc_43 (by decide +kernel)
theorem dX19_setGlue_87 : decode cX19_setGlue 87 = .ok (.getfield 121, 3) := dc_180 (a := 0) (b := 121) (n := 121) (by decide +kernel)
theorem dX19_setGlue_90 : decode cX19_setGlue 90 = .ok (.ifCond .ne 18, 3) := dc_154 (a := 0) (b := 18) (v := 18) (by decide +kernel)
theorem dX19_setGlue_93 : decode cX19_setGlue 93 = .ok (.aload_n 1, 1) := dc_43 (by decide +kernel)
theorem dX19_setGlue_94 : decode cX19_setGlue 94 = .ok (.getfield 124, 3) := dc_180 (a := 0) (b := 124) (n := 124) (by decide +kernel)
theorem dX19_setGlue_97 : decode cX19_setGlue 97 = .ok (.i2l, 1) := dc_133 (by decide +kernel)
theorem dX19_setGlue_98 : decode cX19_setGlue 98 = .ok (.lload 5, 2) := dc_22 (a := 5) (by decide +kernel)
theorem dX19_setGlue_100 : decode cX19_setGlue 100 = .ok (.lcmp, 1) := dc_148 (by decide +kernel)
theorem dX19_setGlue_101 : decode cX19_setGlue 101 = .ok (.ifCond .ge 7, 3) := dc_156 (a := 0) (b := 7) (v := 7) (by decide +kernel)
theorem dX19_setGlue_104 : decode cX19_setGlue 104 = .ok (.iconst 1, 1) := dc_4 (by decide +kernel)
theorem dX19_setGlue_105 : decode cX19_setGlue 105 = .ok (.goto 4, 3) := dc_167 (a := 0) (b := 4) (v := 4) (by decide +kernel)
theorem dX19_setGlue_108 : decode cX19_setGlue 108 = .ok (.iconst 0, 1) := dc_3 (by decide +kernel)
theorem dX19_setGlue_109 : decode cX19_setGlue 109 = .ok (.istore 7, 2) := dc_54 (a := 7) (by decide +kernel)
theorem dX19_setGlue_111 : decode cX19_setGlue 111 = .ok (.aload_n 1, 1) := dc_43 (by decide +kernel)
theorem dX19_setGlue_112 : decode cX19_setGlue 112 = .ok (.iload 7, 2) := dc_21 (a := 7) (by decide +kernel)
theorem dX19_setGlue_114 : decode cX19_setGlue 114 = .ok (.ifCond .eq 15, 3) := dc_153 (a := 0) (b := 15) (v := 15) (by decide +kernel)
theorem dX19_setGlue_117 : decode cX19_setGlue 117 = .ok (.lload 5, 2) := dc_22 (a := 5) (by decide +kernel)
theorem dX19_setGlue_119 : decode cX19_setGlue 119 = .ok (.aload_n 1, 1) := dc_43 (by decide +kernel)
theorem dX19_setGlue_120 : decode cX19_setGlue 120 = .ok (.getfield 124, 3) := dc_180 (a := 0) (b := 124) (n := 124) (by decide +kernel)
theorem dX19_setGlue_123 : decode cX19_setGlue 123 = .ok (.i2l, 1) := dc_133 (by decide +kernel)
theorem dX19_setGlue_124 : decode cX19_setGlue 124 = .ok (.lsub, 1) := dc_101 (by decide +kernel)
theorem dX19_setGlue_125 : decode cX19_setGlue 125 = .ok (.l2i, 1) := dc_136 (by decide +kernel)
theorem dX19_setGlue_126 : decode cX19_setGlue 126 = .ok (.goto 4, 3) := dc_167 (a := 0) (b := 4) (v := 4) (by decide +kernel)
theorem dX19_setGlue_129 : decode cX19_setGlue 129 = .ok (.iconst 0, 1) := dc_3 (by decide +kernel)
theorem dX19_setGlue_130 : decode cX19_setGlue 130 = .ok (.putfield 127, 3) := dc_181 (a := 0) (b := 127) (n := 127) (by decide +kernel)
theorem dX19_setGlue_133 : decode cX19_setGlue 133 = .ok (.aload_n 1, 1) := dc_43 (by decide +kernel)
theorem dX19_setGlue_134 : decode cX19_setGlue 134 = .ok (.iload 7, 2) := dc_21 (a := 7) (by decide +kernel)
theorem dX19_setGlue_136 : decode cX19_setGlue 136 = .ok (.ifCond .eq 8, 3) := dc_153 (a := 0) (b := 8) (v := 8) (by decide +kernel)
theorem dX19_setGlue_139 : decode cX19_setGlue 139 = .ok (.ldc 130, 2) := dc_18 (a := 130) (by decide +kernel)
theorem dX19_setGlue_141 : decode cX19_setGlue 141 = .ok (.goto 24, 3) := dc_167 (a := 0) (b := 24) (v := 24) (by decide +kernel)
theorem dX19_setGlue_144 : decode cX19_setGlue 144 = .ok (.aload_n 1, 1) := dc_43 (by decide +kernel)
theorem dX19_setGlue_145 : decode cX19_setGlue 145 = .ok (.getfield 121, 3) := dc_180 (a := 0) (b := 121) (n := 121) (by decide +kernel)
theorem dX19_setGlue_148 : decode cX19_setGlue 148 = .ok (.ifCond .le 7, 3) := dc_158 (a := 0) (b := 7) (v := 7) (by decide +kernel)
theorem dX19_setGlue_151 : decode cX19_setGlue 151 = .ok (.iconst 0, 1) := dc_3 (by decide +kernel)
theorem dX19_setGlue_152 : decode cX19_setGlue 152 = .ok (.goto 13, 3) := dc_167 (a := 0) (b := 13) (v := 13) (by decide +kernel)
theorem dX19_setGlue_155 : decode cX19_setGlue 155 = .ok (.lload 5, 2) := dc_22 (a := 5) (by decide +kernel)
theorem dX19_setGlue_157 : decode cX19_setGlue 157 = .ok (.aload_n 1, 1) := dc_43 (by decide +kernel)
theorem dX19_setGlue_158 : decode cX19_setGlue 158 = .ok (.getfield 124, 3) := dc_180 (a := 0) (b := 124) (n := 124) (by decide +kernel)
theorem dX19_setGlue_161 : decode cX19_setGlue 161 = .ok (.i2l, 1) := dc_133 (by decide +kernel)
theorem dX19_setGlue_162 : decode cX19_setGlue 162 = .ok (.invokestatic 131, 3) := dc_184 (a := 0) (b := 131) (n := 131) (by decide +kernel)
theorem dX19_setGlue_165 : decode cX19_setGlue 165 = .ok (.putfield 135, 3) := dc_181 (a := 0) (b := 135) (n := 135) (by decide +kernel)
theorem dX19_setGlue_168 : decode cX19_setGlue 168 = .ok (.return_, 1) := dc_177 (by decide +kernel)
theorem GX19_121 {w : eW} {d : Nat} {Y : eY} {pc : Nat} {ls : eL} {st : List Value} {h : eH} {Q : eO → eH → Prop} {a : Nat} {x : Int32} (hf : g_I 41 h a 7 = some x) (hd : decode Y.2.1 pc = .ok (.getfield 121, 3)) (hY : Y.1.cls = RX19) (kk : wp w d Y (pc + 3) ls (.int x :: st) h Q) : wp w d Y pc ls (.ref a :: st) h Q := x_gIN (ci := 41) (k := 7) hf hd rfl (by decide) (by rw [hY]; exact q3529) kk
theorem GX19_124 {w : eW} {d : Nat} {Y : eY} {pc : Nat} {ls : eL} {st : List Value} {h : eH} {Q : eO → eH → Prop} {a : Nat} {x : Int32} (hf : g_I 41 h a 8 = some x) (hd : decode Y.2.1 pc = .ok (.getfield 124, 3)) (hY : Y.1.cls = RX19) (kk : wp w d Y (pc + 3) ls (.int x :: st) h Q) : wp w d Y pc ls (.ref a :: st) h Q := x_gIN (ci := 41) (k := 8) hf hd rfl (by decide) (by rw [hY]; exact q3531) kk
theorem SX19_114 {w : eW} {d : Nat} {Y : eY} {pc : Nat} {ls : eL} {st : List Value} {h : eH} {Q : eO → eH → Prop} {a : Nat} {h' : eH} {x : Int32} (hf : p_V 41 h a 6 (.int x) = some h') (hd : decode Y.2.1 pc = .ok (.putfield 114, 3)) (hY : Y.1.cls = RX19) (kk : wp w d Y (pc + 3) ls st h' Q) : wp w d Y pc ls (.int x :: .ref a :: st) h Q := x_pIN (ci := 41) (k := 6) hf hd rfl (by decide) (by rw [hY]; exact q3527) rfl rfl kk
theorem SX19_121 {w : eW} {d : Nat} {Y : eY} {pc : Nat} {ls : eL} {st : List Value} {h : eH} {Q : eO → eH → Prop} {a : Nat} {h' : eH} {x : Int32} (hf : p_V 41 h a 7 (.int x) = some h') (hd : decode Y.2.1 pc = .ok (.putfield 121, 3)) (hY : Y.1.cls = RX19) (kk : wp w d Y (pc + 3) ls st h' Q) : wp w d Y pc ls (.int x :: .ref a :: st) h Q := x_pIN (ci := 41) (k := 7) hf hd rfl (by decide) (by rw [hY]; exact q3529) rfl rfl kk
theorem SX19_124 {w : eW} {d : Nat} {Y : eY} {pc : Nat} {ls : eL} {st : List Value} {h : eH} {Q : eO → eH → Prop} {a : Nat} {h' : eH} {x : Int32} (hf : p_V 41 h a 8 (.int x) = some h') (hd : decode Y.2.1 pc = .ok (.putfield 124, 3)) (hY : Y.1.cls = RX19) (kk : wp w d Y (pc + 3) ls st h' Q) : wp w d Y pc ls (.int x :: .ref a :: st) h Q := x_pIN (ci := 41) (k := 8) hf hd rfl (by decide) (by rw [hY]; exact q3531) rfl rfl kk
theorem SX19_127 {w : eW} {d : Nat} {Y : eY} {pc : Nat} {ls : eL} {st : List Value} {h : eH} {Q : eO → eH → Prop} {a : Nat} {h' : eH} {x : Int32} (hf : p_V 41 h a 10 (.int x) = some h') (hd : decode Y.2.1 pc = .ok (.putfield 127, 3)) (hY : Y.1.cls = RX19) (kk : wp w d Y (pc + 3) ls st h' Q) : wp w d Y pc ls (.int x :: .ref a :: st) h Q := x_pIN (ci := 41) (k := 10) hf hd rfl (by decide) (by rw [hY]; exact q3535) rfl rfl kk
theorem SX19_135 {w : eW} {d : Nat} {Y : eY} {pc : Nat} {ls : eL} {st : List Value} {h : eH} {Q : eO → eH → Prop} {a : Nat} {h' : eH} {x : Int32} (hf : p_V 41 h a 9 (.int x) = some h') (hd : decode Y.2.1 pc = .ok (.putfield 135, 3)) (hY : Y.1.cls = RX19) (kk : wp w d Y (pc + 3) ls st h' Q) : wp w d Y pc ls (.int x :: .ref a :: st) h Q := x_pIN (ci := 41) (k := 9) hf hd rfl (by decide) (by rw [hY]; exact q3533) rfl rfl kk
def fX19_setGlue_b165 (N : Nat) (s0 : Nat) (s1 : Int32) (h : eH) : Option (Unit × eH) :=
  (p_V 41 h s0 9 (.int s1)).bind fun h1 =>
  some ((), h1)
theorem pX19_setGlue_b165 {w : eW} {d : Nat} (hd : 1 ≤ d + 1) {N : Nat} {s0 : Nat} {s1 : Int32} {h : eH} {q} (hf : fX19_setGlue_b165 N s0 s1 h = some q) : wp w (d + 1) YX19_setGlue 165 [none, none, none, none, none, none, none, none] [.int s1, .ref s0] h (e_is (e_rn c_V q)) := by
  unfold fX19_setGlue_b165 at hf
  obtain ⟨h1, b2, hf⟩ := Option.bind_eq_some_iff.mp hf
  refine SX19_135 b2 dX19_setGlue_165 rfl ?_
  cases hf
  exact w_vret dX19_setGlue_168 rfl rfl
def fX19_setGlue_b130 (N : Nat) (l1 : Nat) (l5 : Int64) (l7 : Int32) (s0 : Nat) (s1 : Int32) (h : eH) : Option (Unit × eH) :=
  (p_V 41 h s0 10 (.int s1)).bind fun h1 =>
  if l7 = 0 then
    (g_I 41 h1 l1 7).bind fun x4 =>
    if x4 ≤ 0 then
      (g_I 41 h1 l1 8).bind fun x7 =>
      (fX19_badness l5 (x7).toInt64 h1).bind fun q9 =>
      fX19_setGlue_b165 N l1 q9.1 q9.2
    else
      fX19_setGlue_b165 N l1 (0 : Int32) h1
  else
    fX19_setGlue_b165 N l1 (1000000 : Int32) h1
theorem pX19_setGlue_b130 {w : eW} {d : Nat} (hd : 1 ≤ d + 1) {N : Nat} {l1 : Nat} {l5 : Int64} {l7 : Int32} {s0 : Nat} {s1 : Int32} {h : eH} {q} (hf : fX19_setGlue_b130 N l1 l5 l7 s0 s1 h = some q) : wp w (d + 1) YX19_setGlue 130 [none, some (.ref l1), none, none, none, some (.long l5), none, some (.int l7)] [.int s1, .ref s0] h (e_is (e_rn c_V q)) := by
  unfold fX19_setGlue_b130 at hf
  obtain ⟨h1, b2, hf⟩ := Option.bind_eq_some_iff.mp hf
  refine SX19_127 b2 dX19_setGlue_130 rfl ?_
  refine w_aload_n dX19_setGlue_133 rfl rfl ?_
  refine w_iload dX19_setGlue_134 rfl ?_
  refine w_if_eq 144 dX19_setGlue_136 (by decide) (fun c3 => ?_) (fun c3 => ?_)
  · replace hf := (if_pos (show l7 = 0 from c3)).symm.trans hf
    refine w_aload_n dX19_setGlue_144 rfl rfl ?_
    obtain ⟨x4, b5, hf⟩ := Option.bind_eq_some_iff.mp hf
    refine GX19_121 b5 dX19_setGlue_145 rfl ?_
    refine w_if_le 155 dX19_setGlue_148 (by decide) (fun c6 => ?_) (fun c6 => ?_)
    · replace hf := (if_pos (show x4 ≤ 0 from c6)).symm.trans hf
      refine w_lload dX19_setGlue_155 rfl ?_
      refine w_aload_n dX19_setGlue_157 rfl rfl ?_
      obtain ⟨x7, b8, hf⟩ := Option.bind_eq_some_iff.mp hf
      refine GX19_124 b8 dX19_setGlue_158 rfl ?_
      refine w_i2l dX19_setGlue_161 ?_
      refine x_cnI hf (e_stS (Yc := YX19_badness) (av := [.long l5, .long (x7).toInt64]) (st := [.ref l1]) dX19_setGlue_162 q3624 mX19_badness) mX19_badness.2.2.1 mX19_badness.2.2.2.2.1 (Nat.le_of_ble_eq_true rfl) (Nat.le_of_ble_eq_true rfl) (fun q hq => pX19_badness (by omega) hq) (fun q9 hf => ?_)
      exact (pX19_setGlue_b165 hd hf).to trivial
    · replace hf := (if_neg (show ¬ (x4 ≤ 0) from c6)).symm.trans hf
      refine w_iconst dX19_setGlue_151 (v := 0) (by decide) ?_
      refine w_goto 165 dX19_setGlue_152 (by decide) ?_
      exact (pX19_setGlue_b165 hd hf).to trivial
  · replace hf := (if_neg (show ¬ (l7 = 0) from c3)).symm.trans hf
    refine w_ldc dX19_setGlue_139 q3623 ?_
    refine w_goto 165 dX19_setGlue_141 (by decide) ?_
    exact (pX19_setGlue_b165 hd hf).to trivial
def fX19_setGlue_b109 (N : Nat) (l1 : Nat) (l5 : Int64) (s0 : Int32) (h : eH) : Option (Unit × eH) :=
  if s0 = 0 then
    fX19_setGlue_b130 N l1 l5 s0 l1 (0 : Int32) h
  else
    (g_I 41 h l1 8).bind fun x2 =>
    fX19_setGlue_b130 N l1 l5 s0 l1 ((l5 - (x2).toInt64)).toInt32 h
theorem pX19_setGlue_b109 {w : eW} {d : Nat} (hd : 1 ≤ d + 1) {N : Nat} {l1 : Nat} {l5 : Int64} {s0 : Int32} {h : eH} {q} (hf : fX19_setGlue_b109 N l1 l5 s0 h = some q) : wp w (d + 1) YX19_setGlue 109 [none, some (.ref l1), none, none, none, some (.long l5), none, none] [.int s0] h (e_is (e_rn c_V q)) := by
  unfold fX19_setGlue_b109 at hf
  refine w_istore dX19_setGlue_109 (by decide) (ls' := [none, some (.ref l1), none, none, none, some (.long l5), none, some (.int s0)]) rfl ?_
  refine w_aload_n dX19_setGlue_111 rfl rfl ?_
  refine w_iload dX19_setGlue_112 rfl ?_
  refine w_if_eq 129 dX19_setGlue_114 (by decide) (fun c1 => ?_) (fun c1 => ?_)
  · replace hf := (if_pos (show s0 = 0 from c1)).symm.trans hf
    refine w_iconst dX19_setGlue_129 (v := 0) (by decide) ?_
    exact (pX19_setGlue_b130 hd hf).to ⟨rfl, rfl, rfl, trivial⟩
  · replace hf := (if_neg (show ¬ (s0 = 0) from c1)).symm.trans hf
    refine w_lload dX19_setGlue_117 rfl ?_
    refine w_aload_n dX19_setGlue_119 rfl rfl ?_
    obtain ⟨x2, b3, hf⟩ := Option.bind_eq_some_iff.mp hf
    refine GX19_124 b3 dX19_setGlue_120 rfl ?_
    refine w_i2l dX19_setGlue_123 ?_
    refine w_lsub dX19_setGlue_124 ?_
    refine w_l2i dX19_setGlue_125 ?_
    refine w_goto 130 dX19_setGlue_126 (by decide) ?_
    exact (pX19_setGlue_b130 hd hf).to ⟨rfl, rfl, rfl, trivial⟩
def fX19_setGlue_b108 (N : Nat) (l1 : Nat) (l5 : Int64) (h : eH) : Option (Unit × eH) :=
  fX19_setGlue_b109 N l1 l5 (0 : Int32) h
theorem pX19_setGlue_b108 {w : eW} {d : Nat} (hd : 1 ≤ d + 1) {N : Nat} {l1 : Nat} {l5 : Int64} {h : eH} {q} (hf : fX19_setGlue_b108 N l1 l5 h = some q) : wp w (d + 1) YX19_setGlue 108 [none, some (.ref l1), none, none, none, some (.long l5), none, none] [] h (e_is (e_rn c_V q)) := by
  unfold fX19_setGlue_b108 at hf
  refine w_iconst dX19_setGlue_108 (v := 0) (by decide) ?_
  exact (pX19_setGlue_b109 hd hf).to ⟨rfl, rfl, trivial⟩
def fX19_setGlue_b78 (N : Nat) (l1 : Nat) (l2 : Int64) (s0 : Int64) (h : eH) : Option (Unit × eH) :=
  if 0 ≤ (lg_cmp l2 (0 : Int64)) then
    fX19_setGlue_b108 N l1 s0 h
  else
    (g_I 41 h l1 7).bind fun x2 =>
    if ¬ x2 = 0 then
      fX19_setGlue_b108 N l1 s0 h
    else
      (g_I 41 h l1 8).bind fun x5 =>
      if 0 ≤ (lg_cmp (x5).toInt64 s0) then
        fX19_setGlue_b108 N l1 s0 h
      else
        fX19_setGlue_b109 N l1 s0 (1 : Int32) h
theorem pX19_setGlue_b78 {w : eW} {d : Nat} (hd : 1 ≤ d + 1) {N : Nat} {l1 : Nat} {l2 : Int64} {s0 : Int64} {h : eH} {q} (hf : fX19_setGlue_b78 N l1 l2 s0 h = some q) : wp w (d + 1) YX19_setGlue 78 [none, some (.ref l1), some (.long l2), none, none, none, none, none] [.long s0] h (e_is (e_rn c_V q)) := by
  unfold fX19_setGlue_b78 at hf
  refine w_lstore dX19_setGlue_78 (by decide) (ls' := [none, some (.ref l1), some (.long l2), none, none, some (.long s0), none, none]) rfl ?_
  refine w_lload_n dX19_setGlue_80 rfl rfl ?_
  refine w_lconst dX19_setGlue_81 (v := 0) (by decide) ?_
  refine w_lcmp dX19_setGlue_82 ?_
  refine w_if_ge 108 dX19_setGlue_83 (by decide) (fun c1 => ?_) (fun c1 => ?_)
  · replace hf := (if_pos (show 0 ≤ (lg_cmp l2 (0 : Int64)) from c1)).symm.trans hf
    exact (pX19_setGlue_b108 hd hf).to ⟨rfl, rfl, trivial⟩
  · replace hf := (if_neg (show ¬ (0 ≤ (lg_cmp l2 (0 : Int64))) from c1)).symm.trans hf
    refine w_aload_n dX19_setGlue_86 rfl rfl ?_
    obtain ⟨x2, b3, hf⟩ := Option.bind_eq_some_iff.mp hf
    refine GX19_121 b3 dX19_setGlue_87 rfl ?_
    refine w_if_ne 108 dX19_setGlue_90 (by decide) (fun c4 => ?_) (fun c4 => ?_)
    · replace hf := (if_pos (show ¬ x2 = 0 from c4)).symm.trans hf
      exact (pX19_setGlue_b108 hd hf).to ⟨rfl, rfl, trivial⟩
    · replace hf := (if_neg (show ¬ (¬ x2 = 0) from (fun z => z c4))).symm.trans hf
      refine w_aload_n dX19_setGlue_93 rfl rfl ?_
      obtain ⟨x5, b6, hf⟩ := Option.bind_eq_some_iff.mp hf
      refine GX19_124 b6 dX19_setGlue_94 rfl ?_
      refine w_i2l dX19_setGlue_97 ?_
      refine w_lload dX19_setGlue_98 rfl ?_
      refine w_lcmp dX19_setGlue_100 ?_
      refine w_if_ge 108 dX19_setGlue_101 (by decide) (fun c7 => ?_) (fun c7 => ?_)
      · replace hf := (if_pos (show 0 ≤ (lg_cmp (x5).toInt64 s0) from c7)).symm.trans hf
        exact (pX19_setGlue_b108 hd hf).to ⟨rfl, rfl, trivial⟩
      · replace hf := (if_neg (show ¬ (0 ≤ (lg_cmp (x5).toInt64 s0)) from c7)).symm.trans hf
        refine w_iconst dX19_setGlue_104 (v := 1) (by decide) ?_
        refine w_goto 109 dX19_setGlue_105 (by decide) ?_
        exact (pX19_setGlue_b109 hd hf).to ⟨rfl, rfl, trivial⟩
def fX19_setGlue_b63 (N : Nat) (l1 : Nat) (l2 : Int64) (s0 : Nat) (s1 : Int32) (h : eH) : Option (Unit × eH) :=
  (p_V 41 h s0 8 (.int s1)).bind fun h1 =>
  if 0 ≤ (lg_cmp l2 (0 : Int64)) then
    fX19_setGlue_b78 N l1 l2 l2 h1
  else
    fX19_setGlue_b78 N l1 l2 (-l2) h1
theorem pX19_setGlue_b63 {w : eW} {d : Nat} (hd : 1 ≤ d + 1) {N : Nat} {l1 : Nat} {l2 : Int64} {s0 : Nat} {s1 : Int32} {h : eH} {q} (hf : fX19_setGlue_b63 N l1 l2 s0 s1 h = some q) : wp w (d + 1) YX19_setGlue 63 [none, some (.ref l1), some (.long l2), none, none, none, none, none] [.int s1, .ref s0] h (e_is (e_rn c_V q)) := by
  unfold fX19_setGlue_b63 at hf
  obtain ⟨h1, b2, hf⟩ := Option.bind_eq_some_iff.mp hf
  refine SX19_124 b2 dX19_setGlue_63 rfl ?_
  refine w_lload_n dX19_setGlue_66 rfl rfl ?_
  refine w_lconst dX19_setGlue_67 (v := 0) (by decide) ?_
  refine w_lcmp dX19_setGlue_68 ?_
  refine w_if_ge 77 dX19_setGlue_69 (by decide) (fun c3 => ?_) (fun c3 => ?_)
  · replace hf := (if_pos (show 0 ≤ (lg_cmp l2 (0 : Int64)) from c3)).symm.trans hf
    refine w_lload_n dX19_setGlue_77 rfl rfl ?_
    exact (pX19_setGlue_b78 hd hf).to ⟨rfl, rfl, trivial⟩
  · replace hf := (if_neg (show ¬ (0 ≤ (lg_cmp l2 (0 : Int64))) from c3)).symm.trans hf
    refine w_lload_n dX19_setGlue_72 rfl rfl ?_
    refine w_lneg dX19_setGlue_73 ?_
    refine w_goto 78 dX19_setGlue_74 (by decide) ?_
    exact (pX19_setGlue_b78 hd hf).to ⟨rfl, rfl, trivial⟩
def fX19_setGlue_b41 (N : Nat) (l1 : Nat) (l2 : Int64) (l4 : Nat) (s0 : Nat) (s1 : Int32) (h : eH) : Option (Unit × eH) :=
  (p_V 41 h s0 7 (.int s1)).bind fun h1 =>
  if ¬ (lg_cmp l2 (0 : Int64)) = 0 then
    (g_I 41 h1 l1 7).bind fun x4 =>
    (r_J h1 l4 x4).bind fun x6 =>
    fX19_setGlue_b63 N l1 l2 l1 (x6).toInt32 h1
  else
    fX19_setGlue_b63 N l1 l2 l1 (0 : Int32) h1
theorem pX19_setGlue_b41 {w : eW} {d : Nat} (hd : 1 ≤ d + 1) {N : Nat} {l1 : Nat} {l2 : Int64} {l4 : Nat} {s0 : Nat} {s1 : Int32} {h : eH} {q} (hf : fX19_setGlue_b41 N l1 l2 l4 s0 s1 h = some q) : wp w (d + 1) YX19_setGlue 41 [none, some (.ref l1), some (.long l2), none, some (.ref l4), none, none, none] [.int s1, .ref s0] h (e_is (e_rn c_V q)) := by
  unfold fX19_setGlue_b41 at hf
  obtain ⟨h1, b2, hf⟩ := Option.bind_eq_some_iff.mp hf
  refine SX19_121 b2 dX19_setGlue_41 rfl ?_
  refine w_aload_n dX19_setGlue_44 rfl rfl ?_
  refine w_lload_n dX19_setGlue_45 rfl rfl ?_
  refine w_lconst dX19_setGlue_46 (v := 0) (by decide) ?_
  refine w_lcmp dX19_setGlue_47 ?_
  refine w_if_ne 55 dX19_setGlue_48 (by decide) (fun c3 => ?_) (fun c3 => ?_)
  · replace hf := (if_pos (show ¬ (lg_cmp l2 (0 : Int64)) = 0 from c3)).symm.trans hf
    refine w_aload dX19_setGlue_55 rfl ?_
    refine w_aload_n dX19_setGlue_57 rfl rfl ?_
    obtain ⟨x4, b5, hf⟩ := Option.bind_eq_some_iff.mp hf
    refine GX19_121 b5 dX19_setGlue_58 rfl ?_
    obtain ⟨x6, b7, hf⟩ := Option.bind_eq_some_iff.mp hf
    refine x_rJ b7 dX19_setGlue_61 ?_
    refine w_l2i dX19_setGlue_62 ?_
    exact (pX19_setGlue_b63 hd hf).to ⟨rfl, rfl, trivial⟩
  · replace hf := (if_neg (show ¬ (¬ (lg_cmp l2 (0 : Int64)) = 0) from (fun z => z c3))).symm.trans hf
    refine w_iconst dX19_setGlue_51 (v := 0) (by decide) ?_
    refine w_goto 63 dX19_setGlue_52 (by decide) ?_
    exact (pX19_setGlue_b63 hd hf).to ⟨rfl, rfl, trivial⟩
def fX19_setGlue_b23 (N : Nat) (l1 : Nat) (l2 : Int64) (s0 : Nat) (h : eH) : Option (Unit × eH) :=
  if ¬ (lg_cmp l2 (0 : Int64)) = 0 then
    (fX19_highest N s0 h).bind fun q2 =>
    fX19_setGlue_b41 N l1 l2 s0 l1 q2.1 q2.2
  else
    fX19_setGlue_b41 N l1 l2 s0 l1 (0 : Int32) h
theorem pX19_setGlue_b23 {w : eW} {d : Nat} (hd : 1 ≤ d + 1) {N : Nat} {l1 : Nat} {l2 : Int64} {s0 : Nat} {h : eH} {q} (hf : fX19_setGlue_b23 N l1 l2 s0 h = some q) : wp w (d + 1) YX19_setGlue 23 [none, some (.ref l1), some (.long l2), none, none, none, none, none] [.ref s0] h (e_is (e_rn c_V q)) := by
  unfold fX19_setGlue_b23 at hf
  refine w_astore dX19_setGlue_23 (by decide) (ls' := [none, some (.ref l1), some (.long l2), none, some (.ref s0), none, none, none]) rfl ?_
  refine w_aload_n dX19_setGlue_25 rfl rfl ?_
  refine w_lload_n dX19_setGlue_26 rfl rfl ?_
  refine w_lconst dX19_setGlue_27 (v := 0) (by decide) ?_
  refine w_lcmp dX19_setGlue_28 ?_
  refine w_if_ne 36 dX19_setGlue_29 (by decide) (fun c1 => ?_) (fun c1 => ?_)
  · replace hf := (if_pos (show ¬ (lg_cmp l2 (0 : Int64)) = 0 from c1)).symm.trans hf
    refine w_aload dX19_setGlue_36 rfl ?_
    refine x_cnI hf (e_stS (Yc := YX19_highest) (av := [.ref s0]) (st := [.ref l1]) dX19_setGlue_38 q3620 mX19_highest) mX19_highest.2.2.1 mX19_highest.2.2.2.2.1 (Nat.le_of_ble_eq_true rfl) (Nat.le_of_ble_eq_true rfl) (fun q hq => pX19_highest (by omega) hq) (fun q2 hf => ?_)
    exact (pX19_setGlue_b41 hd hf).to ⟨rfl, rfl, rfl, trivial⟩
  · replace hf := (if_neg (show ¬ (¬ (lg_cmp l2 (0 : Int64)) = 0) from (fun z => z c1))).symm.trans hf
    refine w_iconst dX19_setGlue_32 (v := 0) (by decide) ?_
    refine w_goto 41 dX19_setGlue_33 (by decide) ?_
    exact (pX19_setGlue_b41 hd hf).to ⟨rfl, rfl, rfl, trivial⟩
def fX19_setGlue (N : Nat) (this : Nat) (p0 : Nat) (p1 : Int64) (h : eH) : Option (Unit × eH) :=
  (p_V 41 h p0 6 (.int (p1).toInt32)).bind fun h1 =>
  if 0 ≤ (lg_cmp p1 (0 : Int64)) then
    (g_A 18 h1 this 2).bind fun a4 =>
    fX19_setGlue_b23 N p0 p1 a4 h1
  else
    (g_A 18 h1 this 3).bind fun a6 =>
    fX19_setGlue_b23 N p0 p1 a6 h1
theorem pX19_setGlue {w : eW} {d : Nat} (hd : 1 ≤ d) {N : Nat} {this : Nat} {p0 : Nat} {p1 : Int64} {h : eH} {q} (hf : fX19_setGlue N this p0 p1 h = some q) : wm w d YX19_setGlue [.ref this, .ref p0, .long p1] h (e_is (e_rn c_V q)) := by
  obtain ⟨d, rfl⟩ : ∃ e, d = e + 1 := ⟨d - 1, by omega⟩
  show wp w (d + 1) YX19_setGlue 0 [some (.ref this), some (.ref p0), some (.long p1), none, none, none, none, none] [] h _
  unfold fX19_setGlue at hf
  refine w_aload_n dX19_setGlue_0 rfl rfl ?_
  refine w_lload_n dX19_setGlue_1 rfl rfl ?_
  refine w_l2i dX19_setGlue_2 ?_
  obtain ⟨h1, b2, hf⟩ := Option.bind_eq_some_iff.mp hf
  refine SX19_114 b2 dX19_setGlue_3 rfl ?_
  refine w_lload_n dX19_setGlue_6 rfl rfl ?_
  refine w_lconst dX19_setGlue_7 (v := 0) (by decide) ?_
  refine w_lcmp dX19_setGlue_8 ?_
  refine w_if_ge 19 dX19_setGlue_9 (by decide) (fun c3 => ?_) (fun c3 => ?_)
  · replace hf := (if_pos (show 0 ≤ (lg_cmp p1 (0 : Int64)) from c3)).symm.trans hf
    refine w_aload_n dX19_setGlue_19 rfl rfl ?_
    obtain ⟨a4, b5, hf⟩ := Option.bind_eq_some_iff.mp hf
    refine GX19_9 b5 dX19_setGlue_20 rfl ?_
    exact (pX19_setGlue_b23 hd hf).to ⟨rfl, rfl, trivial⟩
  · replace hf := (if_neg (show ¬ (0 ≤ (lg_cmp p1 (0 : Int64))) from c3)).symm.trans hf
    refine w_aload_n dX19_setGlue_12 rfl rfl ?_
    obtain ⟨a6, b7, hf⟩ := Option.bind_eq_some_iff.mp hf
    refine GX19_15 b7 dX19_setGlue_13 rfl ?_
    refine w_goto 23 dX19_setGlue_16 (by decide) ?_
    exact (pX19_setGlue_b23 hd hf).to ⟨rfl, rfl, trivial⟩
abbrev cX19_pack : ByteArray := prog_19_method_13_code
def yX19_pack : MethodName := ⟨RX19, "pack", "(LTypeHouse$Box;III)Z"⟩
def YX19_pack : eY := (yX19_pack, cX19_pack, 9, (Option.some FieldType.boolean), [])
theorem mX19_pack : e_mv YX19_pack RX19 4 := ⟨q3572, q3573, q3574, by decide, by decide +kernel, (e_sig (by decide +kernel))⟩
theorem dX19_pack_0 : decode cX19_pack 0 = .ok (.aload_n 0, 1) := dc_42 (by decide +kernel)
theorem dX19_pack_1 : decode cX19_pack 1 = .ok (.aload_n 1, 1) := dc_43 (by decide +kernel)
theorem dX19_pack_2 : decode cX19_pack 2 = .ok (.getfield 139, 3) := dc_180 (a := 0) (b := 139) (n := 139) (by decide +kernel)
theorem dX19_pack_5 : decode cX19_pack 5 = .ok (.invokevirtual 140, 3) := dc_182 (a := 0) (b := 140) (n := 140) (by decide +kernel)
theorem dX19_pack_8 : decode cX19_pack 8 = .ok (.aload_n 1, 1) := dc_43 (by decide +kernel)
theorem dX19_pack_9 : decode cX19_pack 9 = .ok (.iconst 1, 1) := dc_4 (by decide +kernel)
theorem dX19_pack_10 : decode cX19_pack 10 = .ok (.putfield 144, 3) := dc_181 (a := 0) (b := 144) (n := 144) (by decide +kernel)
theorem dX19_pack_13 : decode cX19_pack 13 = .ok (.aload_n 1, 1) := dc_43 (by decide +kernel)
theorem dX19_pack_14 : decode cX19_pack 14 = .ok (.getfield 147, 3) := dc_180 (a := 0) (b := 147) (n := 147) (by decide +kernel)
theorem dX19_pack_17 : decode cX19_pack 17 = .ok (.aload_n 1, 1) := dc_43 (by decide +kernel)
theorem dX19_pack_18 : decode cX19_pack 18 = .ok (.getfield 150, 3) := dc_180 (a := 0) (b := 150) (n := 150) (by decide +kernel)
theorem dX19_pack_21 : decode cX19_pack 21 = .ok (.isub, 1) := dc_100 (by decide +kernel)
theorem dX19_pack_22 : decode cX19_pack 22 = .ok (.i2l, 1) := dc_133 (by decide +kernel)
theorem dX19_pack_23 : decode cX19_pack 23 = .ok (.lstore 5, 2) := dc_55 (a := 5) (by decide +kernel)
theorem dX19_pack_25 : decode cX19_pack 25 = .ok (.aload_n 1, 1) := dc_43 (by decide +kernel)
theorem dX19_pack_26 : decode cX19_pack 26 = .ok (.getfield 150, 3) := dc_180 (a := 0) (b := 150) (n := 150) (by decide +kernel)
theorem dX19_pack_29 : decode cX19_pack 29 = .ok (.istore 7, 2) := dc_54 (a := 7) (by decide +kernel)
theorem dX19_pack_31 : decode cX19_pack 31 = .ok (.iload 7, 2) := dc_21 (a := 7) (by decide +kernel)
theorem dX19_pack_33 : decode cX19_pack 33 = .ok (.aload_n 1, 1) := dc_43 (by decide +kernel)
theorem dX19_pack_34 : decode cX19_pack 34 = .ok (.getfield 147, 3) := dc_180 (a := 0) (b := 147) (n := 147) (by decide +kernel)
theorem dX19_pack_37 : decode cX19_pack 37 = .ok (.if_icmp .ge 77, 3) := dc_162 (a := 0) (b := 77) (v := 77) (by decide +kernel)
theorem dX19_pack_40 : decode cX19_pack 40 = .ok (.aload_n 0, 1) := dc_42 (by decide +kernel)
theorem dX19_pack_41 : decode cX19_pack 41 = .ok (.iload 7, 2) := dc_21 (a := 7) (by decide +kernel)
theorem dX19_pack_43 : decode cX19_pack 43 = .ok (.invokevirtual 153, 3) := dc_182 (a := 0) (b := 153) (n := 153) (by decide +kernel)
theorem dX19_pack_46 : decode cX19_pack 46 = .ok (.aload_n 0, 1) := dc_42 (by decide +kernel)
theorem dX19_pack_47 : decode cX19_pack 47 = .ok (.getfield 18, 3) := dc_180 (a := 0) (b := 18) (n := 18) (by decide +kernel)
theorem dX19_pack_50 : decode cX19_pack 50 = .ok (.iload 7, 2) := dc_21 (a := 7) (by decide +kernel)
theorem dX19_pack_52 : decode cX19_pack 52 = .ok (.invokevirtual 87, 3) := dc_182 (a := 0) (b := 87) (n := 87) (by decide +kernel)
theorem dX19_pack_55 : decode cX19_pack 55 = .ok (.iconst 4, 1) := dc_7 (by decide +kernel)
theorem dX19_pack_56 : decode cX19_pack 56 = .ok (.if_icmp .eq 6, 3) := dc_159 (a := 0) (b := 6) (v := 6) (by decide +kernel)
theorem dX19_pack_59 : decode cX19_pack 59 = .ok (.goto 49, 3) := dc_167 (a := 0) (b := 49) (v := 49) (by decide +kernel)
theorem dX19_pack_62 : decode cX19_pack 62 = .ok (.aload_n 0, 1) := dc_42 (by decide +kernel)
theorem dX19_pack_63 : decode cX19_pack 63 = .ok (.getfield 22, 3) := dc_180 (a := 0) (b := 22) (n := 22) (by decide +kernel)
theorem dX19_pack_66 : decode cX19_pack 66 = .ok (.aload_n 0, 1) := dc_42 (by decide +kernel)
theorem dX19_pack_67 : decode cX19_pack 67 = .ok (.getfield 18, 3) := dc_180 (a := 0) (b := 18) (n := 18) (by decide +kernel)
theorem dX19_pack_70 : decode cX19_pack 70 = .ok (.iload 7, 2) := dc_21 (a := 7) (by decide +kernel)
theorem dX19_pack_72 : decode cX19_pack 72 = .ok (.iconst 0, 1) := dc_3 (by decide +kernel)
theorem dX19_pack_73 : decode cX19_pack 73 = .ok (.invokevirtual 73, 3) := dc_182 (a := 0) (b := 73) (n := 73) (by decide +kernel)
theorem dX19_pack_76 : decode cX19_pack 76 = .ok (.aaload, 1) := dc_50 (by decide +kernel)
theorem dX19_pack_77 : decode cX19_pack 77 = .ok (.astore 8, 2) := dc_58 (a := 8) (by decide +kernel)
theorem dX19_pack_79 : decode cX19_pack 79 = .ok (.aload_n 1, 1) := dc_43 (by decide +kernel)
theorem dX19_pack_80 : decode cX19_pack 80 = .ok (.aload_n 1, 1) := dc_43 (by decide +kernel)
theorem dX19_pack_81 : decode cX19_pack 81 = .ok (.getfield 144, 3) := dc_180 (a := 0) (b := 144) (n := 144) (by decide +kernel)
theorem dX19_pack_84 : decode cX19_pack 84 = .ok (.aload 8, 2) := dc_25 (a := 8) (by decide +kernel)
theorem dX19_pack_86 : decode cX19_pack 86 = .ok (.getfield 144, 3) := dc_180 (a := 0) (b := 144) (n := 144) (by decide +kernel)
theorem dX19_pack_89 : decode cX19_pack 89 = .ok (.iconst 1, 1) := dc_4 (by decide +kernel)
theorem dX19_pack_90 : decode cX19_pack 90 = .ok (.iadd, 1) := dc_96 (by decide +kernel)
theorem dX19_pack_91 : decode cX19_pack 91 = .ok (.invokestatic 156, 3) := dc_184 (a := 0) (b := 156) (n := 156) (by decide +kernel)
theorem dX19_pack_94 : decode cX19_pack 94 = .ok (.putfield 144, 3) := dc_181 (a := 0) (b := 144) (n := 144) (by decide +kernel)
theorem dX19_pack_97 : decode cX19_pack 97 = .ok (.lload 5, 2) := dc_22 (a := 5) (by decide +kernel)
theorem dX19_pack_99 : decode cX19_pack 99 = .ok (.aload 8, 2) := dc_25 (a := 8) (by decide +kernel)
theorem dX19_pack_101 : decode cX19_pack 101 = .ok (.getfield 158, 3) := dc_180 (a := 0) (b := 158) (n := 158) (by decide +kernel)
theorem dX19_pack_104 : decode cX19_pack 104 = .ok (.i2l, 1) := dc_133 (by decide +kernel)
theorem dX19_pack_105 : decode cX19_pack 105 = .ok (.ladd, 1) := dc_97 (by decide +kernel)
theorem dX19_pack_106 : decode cX19_pack 106 = .ok (.lstore 5, 2) := dc_55 (a := 5) (by decide +kernel)
theorem dX19_pack_108 : decode cX19_pack 108 = .ok (.iinc 7 1, 3) := dc_132 (a := 7) (b := 1) (v := 1) (by decide +kernel)
theorem dX19_pack_111 : decode cX19_pack 111 = .ok (.goto (-80), 3) := dc_167 (a := 255) (b := 176) (v := -80) (by decide +kernel)
theorem dX19_pack_114 : decode cX19_pack 114 = .ok (.aload_n 1, 1) := dc_43 (by decide +kernel)
theorem dX19_pack_115 : decode cX19_pack 115 = .ok (.ldc2_w 161, 3) := dc_20 (a := 0) (b := 161) (n := 161) (by decide +kernel)
theorem dX19_pack_118 : decode cX19_pack 118 = .ok (.lload 5, 2) := dc_22 (a := 5) (by decide +kernel)
theorem dX19_pack_120 : decode cX19_pack 120 = .ok (.invokestatic 163, 3) := dc_184 (a := 0) (b := 163) (n := 163) (by decide +kernel)
theorem dX19_pack_123 : decode cX19_pack 123 = .ok (.l2i, 1) := dc_136 (by decide +kernel)
theorem dX19_pack_124 : decode cX19_pack 124 = .ok (.putfield 158, 3) := dc_181 (a := 0) (b := 158) (n := 158) (by decide +kernel)
theorem dX19_pack_127 : decode cX19_pack 127 = .ok (.aload_n 0, 1) := dc_42 (by decide +kernel)
theorem dX19_pack_128 : decode cX19_pack 128 = .ok (.getfield 34, 3) := dc_180 (a := 0) (b := 34) (n := 34) (by decide +kernel)
theorem dX19_pack_131 : decode cX19_pack 131 = .ok (.ifCond .eq 38, 3) := dc_153 (a := 0) (b := 38) (v := 38) (by decide +kernel)
theorem dX19_pack_134 : decode cX19_pack 134 = .ok (.aload_n 0, 1) := dc_42 (by decide +kernel)
theorem dX19_pack_135 : decode cX19_pack 135 = .ok (.aload_n 0, 1) := dc_42 (by decide +kernel)
theorem dX19_pack_136 : decode cX19_pack 136 = .ok (.getfield 47, 3) := dc_180 (a := 0) (b := 47) (n := 47) (by decide +kernel)
theorem dX19_pack_139 : decode cX19_pack 139 = .ok (.iload 4, 2) := dc_21 (a := 4) (by decide +kernel)
theorem dX19_pack_141 : decode cX19_pack 141 = .ok (.i2l, 1) := dc_133 (by decide +kernel)
theorem dX19_pack_142 : decode cX19_pack 142 = .ok (.invokestatic 163, 3) := dc_184 (a := 0) (b := 163) (n := 163) (by decide +kernel)
theorem dX19_pack_145 : decode cX19_pack 145 = .ok (.putfield 44, 3) := dc_181 (a := 0) (b := 44) (n := 44) (by decide +kernel)
theorem dX19_pack_148 : decode cX19_pack 148 = .ok (.aload_n 0, 1) := dc_42 (by decide +kernel)
theorem dX19_pack_149 : decode cX19_pack 149 = .ok (.aload_n 0, 1) := dc_42 (by decide +kernel)
theorem dX19_pack_150 : decode cX19_pack 150 = .ok (.aload_n 0, 1) := dc_42 (by decide +kernel)
theorem dX19_pack_151 : decode cX19_pack 151 = .ok (.getfield 37, 3) := dc_180 (a := 0) (b := 37) (n := 37) (by decide +kernel)
theorem dX19_pack_154 : decode cX19_pack 154 = .ok (.aload_n 0, 1) := dc_42 (by decide +kernel)
theorem dX19_pack_155 : decode cX19_pack 155 = .ok (.getfield 47, 3) := dc_180 (a := 0) (b := 47) (n := 47) (by decide +kernel)
theorem dX19_pack_158 : decode cX19_pack 158 = .ok (.aload_n 0, 1) := dc_42 (by decide +kernel)
theorem dX19_pack_159 : decode cX19_pack 159 = .ok (.getfield 44, 3) := dc_180 (a := 0) (b := 44) (n := 44) (by decide +kernel)
theorem dX19_pack_162 : decode cX19_pack 162 = .ok (.lsub, 1) := dc_101 (by decide +kernel)
theorem dX19_pack_163 : decode cX19_pack 163 = .ok (.invokevirtual 50, 3) := dc_182 (a := 0) (b := 50) (n := 50) (by decide +kernel)
theorem dX19_pack_166 : decode cX19_pack 166 = .ok (.putfield 37, 3) := dc_181 (a := 0) (b := 37) (n := 37) (by decide +kernel)
theorem dX19_pack_169 : decode cX19_pack 169 = .ok (.iload_n 2, 1) := dc_28 (by decide +kernel)
theorem dX19_pack_170 : decode cX19_pack 170 = .ok (.ifCond .ne 7, 3) := dc_154 (a := 0) (b := 7) (v := 7) (by decide +kernel)
theorem dX19_pack_173 : decode cX19_pack 173 = .ok (.lconst 0, 1) := dc_9 (by decide +kernel)
theorem dX19_pack_174 : decode cX19_pack 174 = .ok (.goto 24, 3) := dc_167 (a := 0) (b := 24) (v := 24) (by decide +kernel)
theorem dX19_pack_177 : decode cX19_pack 177 = .ok (.iload_n 2, 1) := dc_28 (by decide +kernel)
theorem dX19_pack_178 : decode cX19_pack 178 = .ok (.iconst 1, 1) := dc_4 (by decide +kernel)
theorem dX19_pack_179 : decode cX19_pack 179 = .ok (.if_icmp .ne 17, 3) := dc_160 (a := 0) (b := 17) (v := 17) (by decide +kernel)
theorem dX19_pack_182 : decode cX19_pack 182 = .ok (.aload_n 0, 1) := dc_42 (by decide +kernel)
theorem dX19_pack_183 : decode cX19_pack 183 = .ok (.iload_n 3, 1) := dc_29 (by decide +kernel)
theorem dX19_pack_184 : decode cX19_pack 184 = .ok (.i2l, 1) := dc_133 (by decide +kernel)
theorem dX19_pack_185 : decode cX19_pack 185 = .ok (.aload_n 0, 1) := dc_42 (by decide +kernel)
theorem dX19_pack_186 : decode cX19_pack 186 = .ok (.getfield 37, 3) := dc_180 (a := 0) (b := 37) (n := 37) (by decide +kernel)
theorem dX19_pack_189 : decode cX19_pack 189 = .ok (.lneg, 1) := dc_117 (by decide +kernel)
theorem dX19_pack_190 : decode cX19_pack 190 = .ok (.invokevirtual 50, 3) := dc_182 (a := 0) (b := 50) (n := 50) (by decide +kernel)
theorem dX19_pack_193 : decode cX19_pack 193 = .ok (.goto 5, 3) := dc_167 (a := 0) (b := 5) (v := 5) (by decide +kernel)
theorem dX19_pack_196 : decode cX19_pack 196 = .ok (.iload_n 3, 1) := dc_29 (by decide +kernel)
theorem dX19_pack_197 : decode cX19_pack 197 = .ok (.i2l, 1) := dc_133 (by decide +kernel)
theorem dX19_pack_198 : decode cX19_pack 198 = .ok (.lstore 7, 2) := dc_55 (a := 7) (by decide +kernel)
theorem dX19_pack_200 : decode cX19_pack 200 = .ok (.aload_n 0, 1) := dc_42 (by decide +kernel)
theorem dX19_pack_201 : decode cX19_pack 201 = .ok (.aload_n 0, 1) := dc_42 (by decide +kernel)
theorem dX19_pack_202 : decode cX19_pack 202 = .ok (.aload_n 0, 1) := dc_42 (by decide +kernel)
theorem dX19_pack_203 : decode cX19_pack 203 = .ok (.getfield 37, 3) := dc_180 (a := 0) (b := 37) (n := 37) (by decide +kernel)
theorem dX19_pack_206 : decode cX19_pack 206 = .ok (.lload 7, 2) := dc_22 (a := 7) (by decide +kernel)
theorem dX19_pack_208 : decode cX19_pack 208 = .ok (.invokevirtual 50, 3) := dc_182 (a := 0) (b := 50) (n := 50) (by decide +kernel)
theorem dX19_pack_211 : decode cX19_pack 211 = .ok (.putfield 37, 3) := dc_181 (a := 0) (b := 37) (n := 37) (by decide +kernel)
theorem dX19_pack_214 : decode cX19_pack 214 = .ok (.aload_n 0, 1) := dc_42 (by decide +kernel)
theorem dX19_pack_215 : decode cX19_pack 215 = .ok (.getfield 26, 3) := dc_180 (a := 0) (b := 26) (n := 26) (by decide +kernel)
theorem dX19_pack_218 : decode cX19_pack 218 = .ok (.ifCond .eq 23, 3) := dc_153 (a := 0) (b := 23) (v := 23) (by decide +kernel)
theorem dX19_pack_221 : decode cX19_pack 221 = .ok (.aload_n 0, 1) := dc_42 (by decide +kernel)
theorem dX19_pack_222 : decode cX19_pack 222 = .ok (.getfield 41, 3) := dc_180 (a := 0) (b := 41) (n := 41) (by decide +kernel)
theorem dX19_pack_225 : decode cX19_pack 225 = .ok (.invokestatic 30, 3) := dc_184 (a := 0) (b := 30) (n := 30) (by decide +kernel)
theorem dX19_pack_228 : decode cX19_pack 228 = .ok (.ifCond .eq 13, 3) := dc_153 (a := 0) (b := 13) (v := 13) (by decide +kernel)
theorem dX19_pack_231 : decode cX19_pack 231 = .ok (.aload_n 0, 1) := dc_42 (by decide +kernel)
theorem dX19_pack_232 : decode cX19_pack 232 = .ok (.getfield 44, 3) := dc_180 (a := 0) (b := 44) (n := 44) (by decide +kernel)
theorem dX19_pack_235 : decode cX19_pack 235 = .ok (.invokestatic 30, 3) := dc_184 (a := 0) (b := 30) (n := 30) (by decide +kernel)
theorem dX19_pack_238 : decode cX19_pack 238 = .ok (.ifCond .ne 5, 3) := dc_154 (a := 0) (b := 5) (v := 5) (by decide +kernel)
theorem dX19_pack_241 : decode cX19_pack 241 = .ok (.iconst 0, 1) := dc_3 (by decide +kernel)
theorem dX19_pack_242 : decode cX19_pack 242 = .ok (.ireturn, 1) := dc_172 (by decide +kernel)
theorem dX19_pack_243 : decode cX19_pack 243 = .ok (.aload_n 0, 1) := dc_42 (by decide +kernel)
theorem dX19_pack_244 : decode cX19_pack 244 = .ok (.aload_n 1, 1) := dc_43 (by decide +kernel)
theorem dX19_pack_245 : decode cX19_pack 245 = .ok (.lload 7, 2) := dc_22 (a := 7) (by decide +kernel)
theorem dX19_pack_247 : decode cX19_pack 247 = .ok (.invokevirtual 166, 3) := dc_182 (a := 0) (b := 166) (n := 166) (by decide +kernel)
theorem dX19_pack_250 : decode cX19_pack 250 = .ok (.aload_n 1, 1) := dc_43 (by decide +kernel)
theorem dX19_pack_251 : decode cX19_pack 251 = .ok (.aload_n 0, 1) := dc_42 (by decide +kernel)
theorem dX19_pack_252 : decode cX19_pack 252 = .ok (.getfield 34, 3) := dc_180 (a := 0) (b := 34) (n := 34) (by decide +kernel)
theorem dX19_pack_255 : decode cX19_pack 255 = .ok (.ifCond .eq 10, 3) := dc_153 (a := 0) (b := 10) (v := 10) (by decide +kernel)
theorem dX19_pack_258 : decode cX19_pack 258 = .ok (.aload_n 0, 1) := dc_42 (by decide +kernel)
theorem dX19_pack_259 : decode cX19_pack 259 = .ok (.getfield 41, 3) := dc_180 (a := 0) (b := 41) (n := 41) (by decide +kernel)
theorem dX19_pack_262 : decode cX19_pack 262 = .ok (.goto 7, 3) := dc_167 (a := 0) (b := 7) (v := 7) (by decide +kernel)
theorem dX19_pack_265 : decode cX19_pack 265 = .ok (.aload_n 0, 1) := dc_42 (by decide +kernel)
theorem dX19_pack_266 : decode cX19_pack 266 = .ok (.getfield 37, 3) := dc_180 (a := 0) (b := 37) (n := 37) (by decide +kernel)
theorem dX19_pack_269 : decode cX19_pack 269 = .ok (.l2i, 1) := dc_136 (by decide +kernel)
theorem dX19_pack_270 : decode cX19_pack 270 = .ok (.putfield 76, 3) := dc_181 (a := 0) (b := 76) (n := 76) (by decide +kernel)
theorem dX19_pack_273 : decode cX19_pack 273 = .ok (.aload_n 1, 1) := dc_43 (by decide +kernel)
theorem dX19_pack_274 : decode cX19_pack 274 = .ok (.aload_n 0, 1) := dc_42 (by decide +kernel)
theorem dX19_pack_275 : decode cX19_pack 275 = .ok (.getfield 34, 3) := dc_180 (a := 0) (b := 34) (n := 34) (by decide +kernel)
theorem dX19_pack_278 : decode cX19_pack 278 = .ok (.ifCond .eq 10, 3) := dc_153 (a := 0) (b := 10) (v := 10) (by decide +kernel)
theorem dX19_pack_281 : decode cX19_pack 281 = .ok (.aload_n 0, 1) := dc_42 (by decide +kernel)
theorem dX19_pack_282 : decode cX19_pack 282 = .ok (.getfield 37, 3) := dc_180 (a := 0) (b := 37) (n := 37) (by decide +kernel)
theorem dX19_pack_285 : decode cX19_pack 285 = .ok (.goto 7, 3) := dc_167 (a := 0) (b := 7) (v := 7) (by decide +kernel)
theorem dX19_pack_288 : decode cX19_pack 288 = .ok (.aload_n 0, 1) := dc_42 (by decide +kernel)
theorem dX19_pack_289 : decode cX19_pack 289 = .ok (.getfield 41, 3) := dc_180 (a := 0) (b := 41) (n := 41) (by decide +kernel)
theorem dX19_pack_292 : decode cX19_pack 292 = .ok (.l2i, 1) := dc_136 (by decide +kernel)
theorem dX19_pack_293 : decode cX19_pack 293 = .ok (.putfield 82, 3) := dc_181 (a := 0) (b := 82) (n := 82) (by decide +kernel)
theorem dX19_pack_296 : decode cX19_pack 296 = .ok (.aload_n 1, 1) := dc_43 (by decide +kernel)
theorem dX19_pack_297 : decode cX19_pack 297 = .ok (.aload_n 0, 1) := dc_42 (by decide +kernel)
theorem dX19_pack_298 : decode cX19_pack 298 = .ok (.getfield 44, 3) := dc_180 (a := 0) (b := 44) (n := 44) (by decide +kernel)
theorem dX19_pack_301 : decode cX19_pack 301 = .ok (.l2i, 1) := dc_136 (by decide +kernel)
theorem dX19_pack_302 : decode cX19_pack 302 = .ok (.putfield 85, 3) := dc_181 (a := 0) (b := 85) (n := 85) (by decide +kernel)
theorem dX19_pack_305 : decode cX19_pack 305 = .ok (.iconst 1, 1) := dc_4 (by decide +kernel)
theorem dX19_pack_306 : decode cX19_pack 306 = .ok (.ireturn, 1) := dc_172 (by decide +kernel)
theorem GX19_139 {w : eW} {d : Nat} {Y : eY} {pc : Nat} {ls : eL} {st : List Value} {h : eH} {Q : eO → eH → Prop} {a : Nat} {x : Int32} (hf : g_I 41 h a 2 = some x) (hd : decode Y.2.1 pc = .ok (.getfield 139, 3)) (hY : Y.1.cls = RX19) (kk : wp w d Y (pc + 3) ls (.int x :: st) h Q) : wp w d Y pc ls (.ref a :: st) h Q := x_gIN (ci := 41) (k := 2) hf hd rfl (by decide) (by rw [hY]; exact q3512) kk
theorem GX19_144 {w : eW} {d : Nat} {Y : eY} {pc : Nat} {ls : eL} {st : List Value} {h : eH} {Q : eO → eH → Prop} {a : Nat} {x : Int32} (hf : g_I 41 h a 11 = some x) (hd : decode Y.2.1 pc = .ok (.getfield 144, 3)) (hY : Y.1.cls = RX19) (kk : wp w d Y (pc + 3) ls (.int x :: st) h Q) : wp w d Y pc ls (.ref a :: st) h Q := x_gIN (ci := 41) (k := 11) hf hd rfl (by decide) (by rw [hY]; exact q3538) kk
theorem GX19_147 {w : eW} {d : Nat} {Y : eY} {pc : Nat} {ls : eL} {st : List Value} {h : eH} {Q : eO → eH → Prop} {a : Nat} {x : Int32} (hf : g_I 41 h a 1 = some x) (hd : decode Y.2.1 pc = .ok (.getfield 147, 3)) (hY : Y.1.cls = RX19) (kk : wp w d Y (pc + 3) ls (.int x :: st) h Q) : wp w d Y pc ls (.ref a :: st) h Q := x_gIN (ci := 41) (k := 1) hf hd rfl (by decide) (by rw [hY]; exact q3509) kk
theorem GX19_150 {w : eW} {d : Nat} {Y : eY} {pc : Nat} {ls : eL} {st : List Value} {h : eH} {Q : eO → eH → Prop} {a : Nat} {x : Int32} (hf : g_I 41 h a 0 = some x) (hd : decode Y.2.1 pc = .ok (.getfield 150, 3)) (hY : Y.1.cls = RX19) (kk : wp w d Y (pc + 3) ls (.int x :: st) h Q) : wp w d Y pc ls (.ref a :: st) h Q := x_gIN (ci := 41) (k := 0) hf hd rfl (by decide) (by rw [hY]; exact q3505) kk
theorem GX19_158 {w : eW} {d : Nat} {Y : eY} {pc : Nat} {ls : eL} {st : List Value} {h : eH} {Q : eO → eH → Prop} {a : Nat} {x : Int32} (hf : g_I 41 h a 12 = some x) (hd : decode Y.2.1 pc = .ok (.getfield 158, 3)) (hY : Y.1.cls = RX19) (kk : wp w d Y (pc + 3) ls (.int x :: st) h Q) : wp w d Y pc ls (.ref a :: st) h Q := x_gIN (ci := 41) (k := 12) hf hd rfl (by decide) (by rw [hY]; exact q3541) kk
theorem SX19_144 {w : eW} {d : Nat} {Y : eY} {pc : Nat} {ls : eL} {st : List Value} {h : eH} {Q : eO → eH → Prop} {a : Nat} {h' : eH} {x : Int32} (hf : p_V 41 h a 11 (.int x) = some h') (hd : decode Y.2.1 pc = .ok (.putfield 144, 3)) (hY : Y.1.cls = RX19) (kk : wp w d Y (pc + 3) ls st h' Q) : wp w d Y pc ls (.int x :: .ref a :: st) h Q := x_pIN (ci := 41) (k := 11) hf hd rfl (by decide) (by rw [hY]; exact q3538) rfl rfl kk
theorem SX19_158 {w : eW} {d : Nat} {Y : eY} {pc : Nat} {ls : eL} {st : List Value} {h : eH} {Q : eO → eH → Prop} {a : Nat} {h' : eH} {x : Int32} (hf : p_V 41 h a 12 (.int x) = some h') (hd : decode Y.2.1 pc = .ok (.putfield 158, 3)) (hY : Y.1.cls = RX19) (kk : wp w d Y (pc + 3) ls st h' Q) : wp w d Y pc ls (.int x :: .ref a :: st) h Q := x_pIN (ci := 41) (k := 12) hf hd rfl (by decide) (by rw [hY]; exact q3541) rfl rfl kk
theorem SX19_76 {w : eW} {d : Nat} {Y : eY} {pc : Nat} {ls : eL} {st : List Value} {h : eH} {Q : eO → eH → Prop} {a : Nat} {h' : eH} {x : Int32} (hf : p_V 41 h a 3 (.int x) = some h') (hd : decode Y.2.1 pc = .ok (.putfield 76, 3)) (hY : Y.1.cls = RX19) (kk : wp w d Y (pc + 3) ls st h' Q) : wp w d Y pc ls (.int x :: .ref a :: st) h Q := x_pIN (ci := 41) (k := 3) hf hd rfl (by decide) (by rw [hY]; exact q3516) rfl rfl kk
theorem SX19_82 {w : eW} {d : Nat} {Y : eY} {pc : Nat} {ls : eL} {st : List Value} {h : eH} {Q : eO → eH → Prop} {a : Nat} {h' : eH} {x : Int32} (hf : p_V 41 h a 4 (.int x) = some h') (hd : decode Y.2.1 pc = .ok (.putfield 82, 3)) (hY : Y.1.cls = RX19) (kk : wp w d Y (pc + 3) ls st h' Q) : wp w d Y pc ls (.int x :: .ref a :: st) h Q := x_pIN (ci := 41) (k := 4) hf hd rfl (by decide) (by rw [hY]; exact q3520) rfl rfl kk
theorem SX19_85 {w : eW} {d : Nat} {Y : eY} {pc : Nat} {ls : eL} {st : List Value} {h : eH} {Q : eO → eH → Prop} {a : Nat} {h' : eH} {x : Int32} (hf : p_V 41 h a 5 (.int x) = some h') (hd : decode Y.2.1 pc = .ok (.putfield 85, 3)) (hY : Y.1.cls = RX19) (kk : wp w d Y (pc + 3) ls st h' Q) : wp w d Y pc ls (.int x :: .ref a :: st) h Q := x_pIN (ci := 41) (k := 5) hf hd rfl (by decide) (by rw [hY]; exact q3524) rfl rfl kk
def fX19_pack_b108 (N : Nat) (k31 : Nat → Nat → Int32 → Int32 → Int32 → Int64 → Int32 → eH → Option (Int32 × eH)) (l0 : Nat) (l1 : Nat) (l2 : Int32) (l3 : Int32) (l4 : Int32) (l5 : Int64) (l7 : Int32) (h : eH) : Option (Int32 × eH) :=
  k31 l0 l1 l2 l3 l4 l5 (l7 + (1 : Int32)) h
theorem pX19_pack_b108 {w : eW} {d : Nat} (hd : 5 ≤ d + 1) {N : Nat} {k31 : Nat → Nat → Int32 → Int32 → Int32 → Int64 → Int32 → eH → Option (Int32 × eH)} (hk31 : ∀ l0 l1 l2 l3 l4 l5 l7 h q, k31 l0 l1 l2 l3 l4 l5 l7 h = some q → wp w (d + 1) YX19_pack 31 [some (.ref l0), some (.ref l1), some (.int l2), some (.int l3), some (.int l4), some (.long l5), none, some (.int l7), none] [] h (e_is (e_rn c_I q))) {l0 : Nat} {l1 : Nat} {l2 : Int32} {l3 : Int32} {l4 : Int32} {l5 : Int64} {l7 : Int32} {h : eH} {q} (hf : fX19_pack_b108 N k31 l0 l1 l2 l3 l4 l5 l7 h = some q) : wp w (d + 1) YX19_pack 108 [some (.ref l0), some (.ref l1), some (.int l2), some (.int l3), some (.int l4), some (.long l5), none, some (.int l7), none] [] h (e_is (e_rn c_I q)) := by
  unfold fX19_pack_b108 at hf
  refine w_iinc dX19_pack_108 (v := (l7 + (1 : Int32))) rfl rfl (by decide) (ls' := [some (.ref l0), some (.ref l1), some (.int l2), some (.int l3), some (.int l4), some (.long l5), none, some (.int (l7 + (1 : Int32))), none]) rfl ?_
  refine w_goto 31 dX19_pack_111 (by decide) ?_
  exact (hk31 _ _ _ _ _ _ _ _ _ hf).to ⟨rfl, rfl, rfl, rfl, rfl, rfl, rfl, trivial⟩
def fX19_pack_b241 (N : Nat)  (h : eH) : Option (Int32 × eH) :=
  some ((0 : Int32), h)
theorem pX19_pack_b241 {w : eW} {d : Nat} (hd : 5 ≤ d + 1) {N : Nat}  {h : eH} {q} (hf : fX19_pack_b241 N h = some q) : wp w (d + 1) YX19_pack 241 [none, none, none, none, none, none, none, none, none] [] h (e_is (e_rn c_I q)) := by
  unfold fX19_pack_b241 at hf
  refine w_iconst dX19_pack_241 (v := 0) (by decide) ?_
  cases hf
  exact w_iret dX19_pack_242 rfl rfl rfl
def fX19_pack_b292 (N : Nat) (l0 : Nat) (l1 : Nat) (s0 : Nat) (s1 : Int64) (h : eH) : Option (Int32 × eH) :=
  (p_V 41 h s0 4 (.int (s1).toInt32)).bind fun h1 =>
  (g_J 18 h1 l0 8).bind fun x3 =>
  (p_V 41 h1 l1 5 (.int (x3).toInt32)).bind fun h5 =>
  some ((1 : Int32), h5)
theorem pX19_pack_b292 {w : eW} {d : Nat} (hd : 5 ≤ d + 1) {N : Nat} {l0 : Nat} {l1 : Nat} {s0 : Nat} {s1 : Int64} {h : eH} {q} (hf : fX19_pack_b292 N l0 l1 s0 s1 h = some q) : wp w (d + 1) YX19_pack 292 [some (.ref l0), some (.ref l1), none, none, none, none, none, none, none] [.long s1, .ref s0] h (e_is (e_rn c_I q)) := by
  unfold fX19_pack_b292 at hf
  refine w_l2i dX19_pack_292 ?_
  obtain ⟨h1, b2, hf⟩ := Option.bind_eq_some_iff.mp hf
  refine SX19_82 b2 dX19_pack_293 rfl ?_
  refine w_aload_n dX19_pack_296 rfl rfl ?_
  refine w_aload_n dX19_pack_297 rfl rfl ?_
  obtain ⟨x3, b4, hf⟩ := Option.bind_eq_some_iff.mp hf
  refine GX19_44 b4 dX19_pack_298 rfl ?_
  refine w_l2i dX19_pack_301 ?_
  obtain ⟨h5, b6, hf⟩ := Option.bind_eq_some_iff.mp hf
  refine SX19_85 b6 dX19_pack_302 rfl ?_
  refine w_iconst dX19_pack_305 (v := 1) (by decide) ?_
  cases hf
  exact w_iret dX19_pack_306 rfl rfl rfl
def fX19_pack_b269 (N : Nat) (l0 : Nat) (l1 : Nat) (s0 : Nat) (s1 : Int64) (h : eH) : Option (Int32 × eH) :=
  (p_V 41 h s0 3 (.int (s1).toInt32)).bind fun h1 =>
  (g_I 18 h1 l0 5).bind fun x3 =>
  if x3 = 0 then
    (g_J 18 h1 l0 7).bind fun x6 =>
    fX19_pack_b292 N l0 l1 l1 x6 h1
  else
    (g_J 18 h1 l0 6).bind fun x8 =>
    fX19_pack_b292 N l0 l1 l1 x8 h1
theorem pX19_pack_b269 {w : eW} {d : Nat} (hd : 5 ≤ d + 1) {N : Nat} {l0 : Nat} {l1 : Nat} {s0 : Nat} {s1 : Int64} {h : eH} {q} (hf : fX19_pack_b269 N l0 l1 s0 s1 h = some q) : wp w (d + 1) YX19_pack 269 [some (.ref l0), some (.ref l1), none, none, none, none, none, none, none] [.long s1, .ref s0] h (e_is (e_rn c_I q)) := by
  unfold fX19_pack_b269 at hf
  refine w_l2i dX19_pack_269 ?_
  obtain ⟨h1, b2, hf⟩ := Option.bind_eq_some_iff.mp hf
  refine SX19_76 b2 dX19_pack_270 rfl ?_
  refine w_aload_n dX19_pack_273 rfl rfl ?_
  refine w_aload_n dX19_pack_274 rfl rfl ?_
  obtain ⟨x3, b4, hf⟩ := Option.bind_eq_some_iff.mp hf
  refine GX19_34 b4 dX19_pack_275 rfl ?_
  refine w_if_eq 288 dX19_pack_278 (by decide) (fun c5 => ?_) (fun c5 => ?_)
  · replace hf := (if_pos (show x3 = 0 from c5)).symm.trans hf
    refine w_aload_n dX19_pack_288 rfl rfl ?_
    obtain ⟨x6, b7, hf⟩ := Option.bind_eq_some_iff.mp hf
    refine GX19_41 b7 dX19_pack_289 rfl ?_
    exact (pX19_pack_b292 hd hf).to ⟨rfl, rfl, trivial⟩
  · replace hf := (if_neg (show ¬ (x3 = 0) from c5)).symm.trans hf
    refine w_aload_n dX19_pack_281 rfl rfl ?_
    obtain ⟨x8, b9, hf⟩ := Option.bind_eq_some_iff.mp hf
    refine GX19_37 b9 dX19_pack_282 rfl ?_
    refine w_goto 292 dX19_pack_285 (by decide) ?_
    exact (pX19_pack_b292 hd hf).to ⟨rfl, rfl, trivial⟩
def fX19_pack_b198 (N : Nat) (l0 : Nat) (l1 : Nat) (s0 : Int64) (h : eH) : Option (Int32 × eH) :=
  (g_J 18 h l0 6).bind fun x1 =>
  (k_ok 18 h l0).bind fun _ =>
  (fX19_sum l0 x1 s0 h).bind fun q4 =>
  (p_V 18 q4.2 l0 6 (.long q4.1)).bind fun h5 =>
  (g_I 18 h5 l0 4).bind fun x7 =>
  if x7 = 0 then
    fX19_pack_b241 N h5
  else
    (g_J 18 h5 l0 7).bind fun x10 =>
    (fX1_isSize x10 h5).bind fun q12 =>
    if q12.1 = 0 then
      fX19_pack_b241 N q12.2
    else
      (g_J 18 q12.2 l0 8).bind fun x14 =>
      (fX1_isSize x14 q12.2).bind fun q16 =>
      if ¬ q16.1 = 0 then
        (k_ok 18 q16.2 l0).bind fun _ =>
        (fX19_setGlue N l0 l1 s0 q16.2).bind fun q19 =>
        (g_I 18 q19.2 l0 5).bind fun x20 =>
        if x20 = 0 then
          (g_J 18 q19.2 l0 6).bind fun x23 =>
          fX19_pack_b269 N l0 l1 l1 x23 q19.2
        else
          (g_J 18 q19.2 l0 7).bind fun x25 =>
          fX19_pack_b269 N l0 l1 l1 x25 q19.2
      else
        fX19_pack_b241 N q16.2
theorem pX19_pack_b198 {w : eW} {d : Nat} (hd : 5 ≤ d + 1) {N : Nat} {l0 : Nat} {l1 : Nat} {s0 : Int64} {h : eH} {q} (hf : fX19_pack_b198 N l0 l1 s0 h = some q) : wp w (d + 1) YX19_pack 198 [some (.ref l0), some (.ref l1), none, none, none, none, none, none, none] [.long s0] h (e_is (e_rn c_I q)) := by
  unfold fX19_pack_b198 at hf
  refine w_lstore dX19_pack_198 (by decide) (ls' := [some (.ref l0), some (.ref l1), none, none, none, none, none, some (.long s0), none]) rfl ?_
  refine w_aload_n dX19_pack_200 rfl rfl ?_
  refine w_aload_n dX19_pack_201 rfl rfl ?_
  refine w_aload_n dX19_pack_202 rfl rfl ?_
  obtain ⟨x1, b2, hf⟩ := Option.bind_eq_some_iff.mp hf
  refine GX19_37 b2 dX19_pack_203 rfl ?_
  refine w_lload dX19_pack_206 rfl ?_
  obtain ⟨_, b3, hf⟩ := Option.bind_eq_some_iff.mp hf
  refine x_cnJ hf (e_stV (Yc := YX19_sum) (ci := 18) (av := [.long x1, .long s0]) (st := [.ref l0]) dX19_pack_208 q3589 mX19_sum rfl (k_ok_some b3).1 (k_ok_some b3).2) mX19_sum.2.2.1 mX19_sum.2.2.2.2.1 (Nat.le_of_ble_eq_true rfl) (Nat.le_of_ble_eq_true rfl) (fun q hq => pX19_sum (by omega) hq) (fun q4 hf => ?_)
  obtain ⟨h5, b6, hf⟩ := Option.bind_eq_some_iff.mp hf
  refine SX19_37 b6 dX19_pack_211 rfl ?_
  refine w_aload_n dX19_pack_214 rfl rfl ?_
  obtain ⟨x7, b8, hf⟩ := Option.bind_eq_some_iff.mp hf
  refine GX19_26 b8 dX19_pack_215 rfl ?_
  refine w_if_eq 241 dX19_pack_218 (by decide) (fun c9 => ?_) (fun c9 => ?_)
  · replace hf := (if_pos (show x7 = 0 from c9)).symm.trans hf
    exact (pX19_pack_b241 hd hf).to trivial
  · replace hf := (if_neg (show ¬ (x7 = 0) from c9)).symm.trans hf
    refine w_aload_n dX19_pack_221 rfl rfl ?_
    obtain ⟨x10, b11, hf⟩ := Option.bind_eq_some_iff.mp hf
    refine GX19_41 b11 dX19_pack_222 rfl ?_
    refine x_cnI hf (e_stSN (Yc := YX1_isSize) (av := [.long x10]) (st := []) dX19_pack_225 q3593 mX1_isSize) mX1_isSize.2.2.1 mX1_isSize.2.2.2.2.1 (Nat.le_of_ble_eq_true rfl) (Nat.le_of_ble_eq_true rfl) (fun q hq => pX1_isSize (by omega) hq) (fun q12 hf => ?_)
    refine w_if_eq 241 dX19_pack_228 (by decide) (fun c13 => ?_) (fun c13 => ?_)
    · replace hf := (if_pos (show q12.1 = 0 from c13)).symm.trans hf
      exact (pX19_pack_b241 hd hf).to trivial
    · replace hf := (if_neg (show ¬ (q12.1 = 0) from c13)).symm.trans hf
      refine w_aload_n dX19_pack_231 rfl rfl ?_
      obtain ⟨x14, b15, hf⟩ := Option.bind_eq_some_iff.mp hf
      refine GX19_44 b15 dX19_pack_232 rfl ?_
      refine x_cnI hf (e_stSN (Yc := YX1_isSize) (av := [.long x14]) (st := []) dX19_pack_235 q3593 mX1_isSize) mX1_isSize.2.2.1 mX1_isSize.2.2.2.2.1 (Nat.le_of_ble_eq_true rfl) (Nat.le_of_ble_eq_true rfl) (fun q hq => pX1_isSize (by omega) hq) (fun q16 hf => ?_)
      refine w_if_ne 243 dX19_pack_238 (by decide) (fun c17 => ?_) (fun c17 => ?_)
      · replace hf := (if_pos (show ¬ q16.1 = 0 from c17)).symm.trans hf
        refine w_aload_n dX19_pack_243 rfl rfl ?_
        refine w_aload_n dX19_pack_244 rfl rfl ?_
        refine w_lload dX19_pack_245 rfl ?_
        obtain ⟨_, b18, hf⟩ := Option.bind_eq_some_iff.mp hf
        refine x_cnV hf (e_stV (Yc := YX19_setGlue) (ci := 18) (av := [.ref l1, .long s0]) (st := []) dX19_pack_247 q3616 mX19_setGlue rfl (k_ok_some b18).1 (k_ok_some b18).2) mX19_setGlue.2.2.1 mX19_setGlue.2.2.2.2.1 (Nat.le_of_ble_eq_true rfl) (Nat.le_of_ble_eq_true rfl) (fun q hq => pX19_setGlue (by omega) hq) (fun q19 hf => ?_)
        refine w_aload_n dX19_pack_250 rfl rfl ?_
        refine w_aload_n dX19_pack_251 rfl rfl ?_
        obtain ⟨x20, b21, hf⟩ := Option.bind_eq_some_iff.mp hf
        refine GX19_34 b21 dX19_pack_252 rfl ?_
        refine w_if_eq 265 dX19_pack_255 (by decide) (fun c22 => ?_) (fun c22 => ?_)
        · replace hf := (if_pos (show x20 = 0 from c22)).symm.trans hf
          refine w_aload_n dX19_pack_265 rfl rfl ?_
          obtain ⟨x23, b24, hf⟩ := Option.bind_eq_some_iff.mp hf
          refine GX19_37 b24 dX19_pack_266 rfl ?_
          exact (pX19_pack_b269 hd hf).to ⟨rfl, rfl, trivial⟩
        · replace hf := (if_neg (show ¬ (x20 = 0) from c22)).symm.trans hf
          refine w_aload_n dX19_pack_258 rfl rfl ?_
          obtain ⟨x25, b26, hf⟩ := Option.bind_eq_some_iff.mp hf
          refine GX19_41 b26 dX19_pack_259 rfl ?_
          refine w_goto 269 dX19_pack_262 (by decide) ?_
          exact (pX19_pack_b269 hd hf).to ⟨rfl, rfl, trivial⟩
      · replace hf := (if_neg (show ¬ (¬ q16.1 = 0) from (fun z => z c17))).symm.trans hf
        exact (pX19_pack_b241 hd hf).to trivial
def fX19_pack_b169 (N : Nat) (l0 : Nat) (l1 : Nat) (l2 : Int32) (l3 : Int32) (h : eH) : Option (Int32 × eH) :=
  if ¬ l2 = 0 then
    if ¬ l2 = (1 : Int32) then
      fX19_pack_b198 N l0 l1 (l3).toInt64 h
    else
      (g_J 18 h l0 6).bind fun x3 =>
      (k_ok 18 h l0).bind fun _ =>
      (fX19_sum l0 (l3).toInt64 (-x3) h).bind fun q6 =>
      fX19_pack_b198 N l0 l1 q6.1 q6.2
  else
    fX19_pack_b198 N l0 l1 (0 : Int64) h
theorem pX19_pack_b169 {w : eW} {d : Nat} (hd : 5 ≤ d + 1) {N : Nat} {l0 : Nat} {l1 : Nat} {l2 : Int32} {l3 : Int32} {h : eH} {q} (hf : fX19_pack_b169 N l0 l1 l2 l3 h = some q) : wp w (d + 1) YX19_pack 169 [some (.ref l0), some (.ref l1), some (.int l2), some (.int l3), none, none, none, none, none] [] h (e_is (e_rn c_I q)) := by
  unfold fX19_pack_b169 at hf
  refine w_iload_n dX19_pack_169 rfl rfl ?_
  refine w_if_ne 177 dX19_pack_170 (by decide) (fun c1 => ?_) (fun c1 => ?_)
  · replace hf := (if_pos (show ¬ l2 = 0 from c1)).symm.trans hf
    refine w_iload_n dX19_pack_177 rfl rfl ?_
    refine w_iconst dX19_pack_178 (v := 1) (by decide) ?_
    refine w_icmp_ne 196 dX19_pack_179 (by decide) (fun c2 => ?_) (fun c2 => ?_)
    · replace hf := (if_pos (show ¬ l2 = (1 : Int32) from c2)).symm.trans hf
      refine w_iload_n dX19_pack_196 rfl rfl ?_
      refine w_i2l dX19_pack_197 ?_
      exact (pX19_pack_b198 hd hf).to ⟨rfl, rfl, trivial⟩
    · replace hf := (if_neg (show ¬ (¬ l2 = (1 : Int32)) from (fun z => z c2))).symm.trans hf
      refine w_aload_n dX19_pack_182 rfl rfl ?_
      refine w_iload_n dX19_pack_183 rfl rfl ?_
      refine w_i2l dX19_pack_184 ?_
      refine w_aload_n dX19_pack_185 rfl rfl ?_
      obtain ⟨x3, b4, hf⟩ := Option.bind_eq_some_iff.mp hf
      refine GX19_37 b4 dX19_pack_186 rfl ?_
      refine w_lneg dX19_pack_189 ?_
      obtain ⟨_, b5, hf⟩ := Option.bind_eq_some_iff.mp hf
      refine x_cnJ hf (e_stV (Yc := YX19_sum) (ci := 18) (av := [.long (l3).toInt64, .long (-x3)]) (st := []) dX19_pack_190 q3589 mX19_sum rfl (k_ok_some b5).1 (k_ok_some b5).2) mX19_sum.2.2.1 mX19_sum.2.2.2.2.1 (Nat.le_of_ble_eq_true rfl) (Nat.le_of_ble_eq_true rfl) (fun q hq => pX19_sum (by omega) hq) (fun q6 hf => ?_)
      refine w_goto 198 dX19_pack_193 (by decide) ?_
      exact (pX19_pack_b198 hd hf).to ⟨rfl, rfl, trivial⟩
  · replace hf := (if_neg (show ¬ (¬ l2 = 0) from (fun z => z c1))).symm.trans hf
    refine w_lconst dX19_pack_173 (v := 0) (by decide) ?_
    refine w_goto 198 dX19_pack_174 (by decide) ?_
    exact (pX19_pack_b198 hd hf).to ⟨rfl, rfl, trivial⟩
def fX19_pack_b31 (N : Nat) : Nat → Nat → Nat → Int32 → Int32 → Int32 → Int64 → Int32 → eH → Option (Int32 × eH)
  | 0, _, _, _, _, _, _, _, _ => none
  | n + 1, l0, l1, l2, l3, l4, l5, l7, h =>
    (g_I 41 h l1 1).bind fun x1 =>
    if x1 ≤ l7 then
      (p_V 41 h l1 12 (.int ((m_minJ (1000000 : Int64) l5)).toInt32)).bind fun h4 =>
      (g_I 18 h4 l0 5).bind fun x6 =>
      if x6 = 0 then
        fX19_pack_b169 N l0 l1 l2 l3 h4
      else
        (g_J 18 h4 l0 9).bind fun x9 =>
        (p_V 18 h4 l0 8 (.long (m_minJ x9 (l4).toInt64))).bind fun h11 =>
        (g_J 18 h11 l0 6).bind fun x13 =>
        (g_J 18 h11 l0 9).bind fun x15 =>
        (g_J 18 h11 l0 8).bind fun x17 =>
        (k_ok 18 h11 l0).bind fun _ =>
        (fX19_sum l0 x13 (x15 - x17) h11).bind fun q20 =>
        (p_V 18 q20.2 l0 6 (.long q20.1)).bind fun h21 =>
        fX19_pack_b169 N l0 l1 l2 l3 h21
    else
      (k_ok 18 h l0).bind fun _ =>
      (fX19_add l0 l7 h).bind fun q24 =>
      (g_A 18 q24.2 l0 0).bind fun a25 =>
      (k_ok 6 q24.2 a25).bind fun _ =>
      (fX7_kind a25 l7 q24.2).bind fun q28 =>
      if q28.1 = (4 : Int32) then
        (g_A 18 q28.2 l0 1).bind fun a30 =>
        (g_A 18 q28.2 l0 0).bind fun a32 =>
        (k_ok 6 q28.2 a32).bind fun _ =>
        (fX7_of a32 l7 (0 : Int32) q28.2).bind fun q35 =>
        (r_A 104 q35.2 a30 q35.1).bind fun a36 =>
        (g_I 41 q35.2 l1 11).bind fun x38 =>
        (g_I 41 q35.2 a36 11).bind fun x40 =>
        (p_V 41 q35.2 l1 11 (.int (m_maxI x38 (x40 + (1 : Int32))))).bind fun h42 =>
        (g_I 41 h42 a36 12).bind fun x44 =>
        fX19_pack_b108 N (fX19_pack_b31 N n) l0 l1 l2 l3 l4 (l5 + (x44).toInt64) l7 h42
      else
        fX19_pack_b108 N (fX19_pack_b31 N n) l0 l1 l2 l3 l4 l5 l7 q28.2
theorem pX19_pack_b31 {w : eW} {d : Nat} (hd : 5 ≤ d + 1) {N : Nat} : ∀ (n : Nat) l0 l1 l2 l3 l4 l5 l7 h q, fX19_pack_b31 N n l0 l1 l2 l3 l4 l5 l7 h = some q → wp w (d + 1) YX19_pack 31 [some (.ref l0), some (.ref l1), some (.int l2), some (.int l3), some (.int l4), some (.long l5), none, some (.int l7), none] [] h (e_is (e_rn c_I q)) := by
  intro n
  induction n with
  | zero => intro l0 l1 l2 l3 l4 l5 l7 h q hf; simp [fX19_pack_b31] at hf
  | succ n ih =>
    intro l0 l1 l2 l3 l4 l5 l7 h q hf
    rw [fX19_pack_b31] at hf
    refine w_iload dX19_pack_31 rfl ?_
    refine w_aload_n dX19_pack_33 rfl rfl ?_
    obtain ⟨x1, b2, hf⟩ := Option.bind_eq_some_iff.mp hf
    refine GX19_147 b2 dX19_pack_34 rfl ?_
    refine w_icmp_ge 114 dX19_pack_37 (by decide) (fun c3 => ?_) (fun c3 => ?_)
    · replace hf := (if_pos (show x1 ≤ l7 from c3)).symm.trans hf
      refine w_aload_n dX19_pack_114 rfl rfl ?_
      refine w_ldc2 dX19_pack_115 q3614 ?_
      refine w_lload dX19_pack_118 rfl ?_
      refine x_minJ dX19_pack_120 q3615 q3314 q478 q3315 (Nat.le_of_ble_eq_true rfl) ?_
      refine w_l2i dX19_pack_123 ?_
      obtain ⟨h4, b5, hf⟩ := Option.bind_eq_some_iff.mp hf
      refine SX19_158 b5 dX19_pack_124 rfl ?_
      refine w_aload_n dX19_pack_127 rfl rfl ?_
      obtain ⟨x6, b7, hf⟩ := Option.bind_eq_some_iff.mp hf
      refine GX19_34 b7 dX19_pack_128 rfl ?_
      refine w_if_eq 169 dX19_pack_131 (by decide) (fun c8 => ?_) (fun c8 => ?_)
      · replace hf := (if_pos (show x6 = 0 from c8)).symm.trans hf
        exact (pX19_pack_b169 hd hf).to ⟨rfl, rfl, rfl, rfl, trivial⟩
      · replace hf := (if_neg (show ¬ (x6 = 0) from c8)).symm.trans hf
        refine w_aload_n dX19_pack_134 rfl rfl ?_
        refine w_aload_n dX19_pack_135 rfl rfl ?_
        obtain ⟨x9, b10, hf⟩ := Option.bind_eq_some_iff.mp hf
        refine GX19_47 b10 dX19_pack_136 rfl ?_
        refine w_iload dX19_pack_139 rfl ?_
        refine w_i2l dX19_pack_141 ?_
        refine x_minJ dX19_pack_142 q3615 q3314 q478 q3315 (Nat.le_of_ble_eq_true rfl) ?_
        obtain ⟨h11, b12, hf⟩ := Option.bind_eq_some_iff.mp hf
        refine SX19_44 b12 dX19_pack_145 rfl ?_
        refine w_aload_n dX19_pack_148 rfl rfl ?_
        refine w_aload_n dX19_pack_149 rfl rfl ?_
        refine w_aload_n dX19_pack_150 rfl rfl ?_
        obtain ⟨x13, b14, hf⟩ := Option.bind_eq_some_iff.mp hf
        refine GX19_37 b14 dX19_pack_151 rfl ?_
        refine w_aload_n dX19_pack_154 rfl rfl ?_
        obtain ⟨x15, b16, hf⟩ := Option.bind_eq_some_iff.mp hf
        refine GX19_47 b16 dX19_pack_155 rfl ?_
        refine w_aload_n dX19_pack_158 rfl rfl ?_
        obtain ⟨x17, b18, hf⟩ := Option.bind_eq_some_iff.mp hf
        refine GX19_44 b18 dX19_pack_159 rfl ?_
        refine w_lsub dX19_pack_162 ?_
        obtain ⟨_, b19, hf⟩ := Option.bind_eq_some_iff.mp hf
        refine x_cnJ hf (e_stV (Yc := YX19_sum) (ci := 18) (av := [.long x13, .long (x15 - x17)]) (st := [.ref l0]) dX19_pack_163 q3589 mX19_sum rfl (k_ok_some b19).1 (k_ok_some b19).2) mX19_sum.2.2.1 mX19_sum.2.2.2.2.1 (Nat.le_of_ble_eq_true rfl) (Nat.le_of_ble_eq_true rfl) (fun q hq => pX19_sum (by omega) hq) (fun q20 hf => ?_)
        obtain ⟨h21, b22, hf⟩ := Option.bind_eq_some_iff.mp hf
        refine SX19_37 b22 dX19_pack_166 rfl ?_
        exact (pX19_pack_b169 hd hf).to ⟨rfl, rfl, rfl, rfl, trivial⟩
    · replace hf := (if_neg (show ¬ (x1 ≤ l7) from c3)).symm.trans hf
      refine w_aload_n dX19_pack_40 rfl rfl ?_
      refine w_iload dX19_pack_41 rfl ?_
      obtain ⟨_, b23, hf⟩ := Option.bind_eq_some_iff.mp hf
      refine x_cnV hf (e_stV (Yc := YX19_add) (ci := 18) (av := [.int l7]) (st := []) dX19_pack_43 q3579 mX19_add rfl (k_ok_some b23).1 (k_ok_some b23).2) mX19_add.2.2.1 mX19_add.2.2.2.2.1 (Nat.le_of_ble_eq_true rfl) (Nat.le_of_ble_eq_true rfl) (fun q hq => pX19_add (by omega) hq) (fun q24 hf => ?_)
      refine w_aload_n dX19_pack_46 rfl rfl ?_
      obtain ⟨a25, b26, hf⟩ := Option.bind_eq_some_iff.mp hf
      refine GX19_18 b26 dX19_pack_47 rfl ?_
      refine w_iload dX19_pack_50 rfl ?_
      obtain ⟨_, b27, hf⟩ := Option.bind_eq_some_iff.mp hf
      refine x_cnI hf (e_stV (Yc := YX7_kind) (ci := 6) (av := [.int l7]) (st := []) dX19_pack_52 q3583 mX7_kind rfl (k_ok_some b27).1 (k_ok_some b27).2) mX7_kind.2.2.1 mX7_kind.2.2.2.2.1 (Nat.le_of_ble_eq_true rfl) (Nat.le_of_ble_eq_true rfl) (fun q hq => pX7_kind (by omega) hq) (fun q28 hf => ?_)
      refine w_iconst dX19_pack_55 (v := 4) (by decide) ?_
      refine w_icmp_eq 62 dX19_pack_56 (by decide) (fun c29 => ?_) (fun c29 => ?_)
      · replace hf := (if_pos (show q28.1 = (4 : Int32) from c29)).symm.trans hf
        refine w_aload_n dX19_pack_62 rfl rfl ?_
        obtain ⟨a30, b31, hf⟩ := Option.bind_eq_some_iff.mp hf
        refine GX19_22 b31 dX19_pack_63 rfl ?_
        refine w_aload_n dX19_pack_66 rfl rfl ?_
        obtain ⟨a32, b33, hf⟩ := Option.bind_eq_some_iff.mp hf
        refine GX19_18 b33 dX19_pack_67 rfl ?_
        refine w_iload dX19_pack_70 rfl ?_
        refine w_iconst dX19_pack_72 (v := 0) (by decide) ?_
        obtain ⟨_, b34, hf⟩ := Option.bind_eq_some_iff.mp hf
        refine x_cnI hf (e_stV (Yc := YX7_of) (ci := 6) (av := [.int l7, .int (0 : Int32)]) (st := [.ref a30]) dX19_pack_73 q3584 mX7_of rfl (k_ok_some b34).1 (k_ok_some b34).2) mX7_of.2.2.1 mX7_of.2.2.2.2.1 (Nat.le_of_ble_eq_true rfl) (Nat.le_of_ble_eq_true rfl) (fun q hq => pX7_of (by omega) hq) (fun q35 hf => ?_)
        obtain ⟨a36, b37, hf⟩ := Option.bind_eq_some_iff.mp hf
        refine x_rA (c := 104) (by decide) b37 dX19_pack_76 ?_
        refine w_astore dX19_pack_77 (by decide) (ls' := [some (.ref l0), some (.ref l1), some (.int l2), some (.int l3), some (.int l4), some (.long l5), none, some (.int l7), some (.ref a36)]) rfl ?_
        refine w_aload_n dX19_pack_79 rfl rfl ?_
        refine w_aload_n dX19_pack_80 rfl rfl ?_
        obtain ⟨x38, b39, hf⟩ := Option.bind_eq_some_iff.mp hf
        refine GX19_144 b39 dX19_pack_81 rfl ?_
        refine w_aload dX19_pack_84 rfl ?_
        obtain ⟨x40, b41, hf⟩ := Option.bind_eq_some_iff.mp hf
        refine GX19_144 b41 dX19_pack_86 rfl ?_
        refine w_iconst dX19_pack_89 (v := 1) (by decide) ?_
        refine w_iadd dX19_pack_90 ?_
        refine x_maxI dX19_pack_91 q3613 q2912 q478 q2913 (Nat.le_of_ble_eq_true rfl) ?_
        obtain ⟨h42, b43, hf⟩ := Option.bind_eq_some_iff.mp hf
        refine SX19_144 b43 dX19_pack_94 rfl ?_
        refine w_lload dX19_pack_97 rfl ?_
        refine w_aload dX19_pack_99 rfl ?_
        obtain ⟨x44, b45, hf⟩ := Option.bind_eq_some_iff.mp hf
        refine GX19_158 b45 dX19_pack_101 rfl ?_
        refine w_i2l dX19_pack_104 ?_
        refine w_ladd dX19_pack_105 ?_
        refine w_lstore dX19_pack_106 (by decide) (ls' := [some (.ref l0), some (.ref l1), some (.int l2), some (.int l3), some (.int l4), some (.long (l5 + (x44).toInt64)), none, some (.int l7), some (.ref a36)]) rfl ?_
        exact (pX19_pack_b108 hd ih hf).to ⟨rfl, rfl, rfl, rfl, rfl, rfl, rfl, trivial⟩
      · replace hf := (if_neg (show ¬ (q28.1 = (4 : Int32)) from c29)).symm.trans hf
        refine w_goto 108 dX19_pack_59 (by decide) ?_
        exact (pX19_pack_b108 hd ih hf).to ⟨rfl, rfl, rfl, rfl, rfl, rfl, rfl, trivial⟩
def fX19_pack (N : Nat) (this : Nat) (p0 : Nat) (p1 : Int32) (p2 : Int32) (p3 : Int32) (h : eH) : Option (Int32 × eH) :=
  (g_I 41 h p0 2).bind fun x1 =>
  (k_ok 18 h this).bind fun _ =>
  (fX19_clear N this x1 h).bind fun q4 =>
  (p_V 41 q4.2 p0 11 (.int (1 : Int32))).bind fun h5 =>
  (g_I 41 h5 p0 1).bind fun x7 =>
  (g_I 41 h5 p0 0).bind fun x9 =>
  (g_I 41 h5 p0 0).bind fun x11 =>
  fX19_pack_b31 N N this p0 p1 p2 p3 ((x7 - x9)).toInt64 x11 h5
theorem pX19_pack {w : eW} {d : Nat} (hd : 5 ≤ d) {N : Nat} {this : Nat} {p0 : Nat} {p1 : Int32} {p2 : Int32} {p3 : Int32} {h : eH} {q} (hf : fX19_pack N this p0 p1 p2 p3 h = some q) : wm w d YX19_pack [.ref this, .ref p0, .int p1, .int p2, .int p3] h (e_is (e_rn c_I q)) := by
  obtain ⟨d, rfl⟩ : ∃ e, d = e + 1 := ⟨d - 1, by omega⟩
  show wp w (d + 1) YX19_pack 0 [some (.ref this), some (.ref p0), some (.int p1), some (.int p2), some (.int p3), none, none, none, none] [] h _
  unfold fX19_pack at hf
  refine w_aload_n dX19_pack_0 rfl rfl ?_
  refine w_aload_n dX19_pack_1 rfl rfl ?_
  obtain ⟨x1, b2, hf⟩ := Option.bind_eq_some_iff.mp hf
  refine GX19_139 b2 dX19_pack_2 rfl ?_
  obtain ⟨_, b3, hf⟩ := Option.bind_eq_some_iff.mp hf
  refine x_cnV hf (e_stV (Yc := YX19_clear) (ci := 18) (av := [.int x1]) (st := []) dX19_pack_5 q3575 mX19_clear rfl (k_ok_some b3).1 (k_ok_some b3).2) mX19_clear.2.2.1 mX19_clear.2.2.2.2.1 (Nat.le_of_ble_eq_true rfl) (Nat.le_of_ble_eq_true rfl) (fun q hq => pX19_clear (by omega) hq) (fun q4 hf => ?_)
  refine w_aload_n dX19_pack_8 rfl rfl ?_
  refine w_iconst dX19_pack_9 (v := 1) (by decide) ?_
  obtain ⟨h5, b6, hf⟩ := Option.bind_eq_some_iff.mp hf
  refine SX19_144 b6 dX19_pack_10 rfl ?_
  refine w_aload_n dX19_pack_13 rfl rfl ?_
  obtain ⟨x7, b8, hf⟩ := Option.bind_eq_some_iff.mp hf
  refine GX19_147 b8 dX19_pack_14 rfl ?_
  refine w_aload_n dX19_pack_17 rfl rfl ?_
  obtain ⟨x9, b10, hf⟩ := Option.bind_eq_some_iff.mp hf
  refine GX19_150 b10 dX19_pack_18 rfl ?_
  refine w_isub dX19_pack_21 ?_
  refine w_i2l dX19_pack_22 ?_
  refine w_lstore dX19_pack_23 (by decide) (ls' := [some (.ref this), some (.ref p0), some (.int p1), some (.int p2), some (.int p3), some (.long ((x7 - x9)).toInt64), none, none, none]) rfl ?_
  refine w_aload_n dX19_pack_25 rfl rfl ?_
  obtain ⟨x11, b12, hf⟩ := Option.bind_eq_some_iff.mp hf
  refine GX19_150 b12 dX19_pack_26 rfl ?_
  refine w_istore dX19_pack_29 (by decide) (ls' := [some (.ref this), some (.ref p0), some (.int p1), some (.int p2), some (.int p3), some (.long ((x7 - x9)).toInt64), none, some (.int x11), none]) rfl ?_
  exact (pX19_pack_b31 hd N _ _ _ _ _ _ _ _ _ hf).to ⟨rfl, rfl, rfl, rfl, rfl, rfl, rfl, trivial⟩
abbrev cX19_nearest : ByteArray := prog_19_method_12_code
def yX19_nearest : MethodName := ⟨RX19, "nearest", "(JJ)J"⟩
def YX19_nearest : eY := (yX19_nearest, cX19_nearest, 6, (Option.some FieldType.long), [])
theorem mX19_nearest : e_ms YX19_nearest 2 := ⟨q3638, q445, q3639, by decide, by decide +kernel, (e_sig (by decide +kernel))⟩
theorem dX19_nearest_0 : decode cX19_nearest 0 = .ok (.lload_n 0, 1) := dc_30 (by decide +kernel)
theorem dX19_nearest_1 : decode cX19_nearest 1 = .ok (.lconst 0, 1) := dc_9 (by decide +kernel)
theorem dX19_nearest_2 : decode cX19_nearest 2 = .ok (.lcmp, 1) := dc_148 (by decide +kernel)
theorem dX19_nearest_3 : decode cX19_nearest 3 = .ok (.ifCond .ge 12, 3) := dc_156 (a := 0) (b := 12) (v := 12) (by decide +kernel)
theorem dX19_nearest_6 : decode cX19_nearest 6 = .ok (.lload_n 2, 1) := dc_32 (by decide +kernel)
theorem dX19_nearest_7 : decode cX19_nearest 7 = .ok (.ldc2_w 137, 3) := dc_20 (a := 0) (b := 137) (n := 137) (by decide +kernel)
theorem dX19_nearest_10 : decode cX19_nearest 10 = .ok (.ldiv, 1) := dc_109 (by decide +kernel)
theorem dX19_nearest_11 : decode cX19_nearest 11 = .ok (.lneg, 1) := dc_117 (by decide +kernel)
theorem dX19_nearest_12 : decode cX19_nearest 12 = .ok (.goto 8, 3) := dc_167 (a := 0) (b := 8) (v := 8) (by decide +kernel)
theorem dX19_nearest_15 : decode cX19_nearest 15 = .ok (.lload_n 2, 1) := dc_32 (by decide +kernel)
theorem dX19_nearest_16 : decode cX19_nearest 16 = .ok (.ldc2_w 137, 3) := dc_20 (a := 0) (b := 137) (n := 137) (by decide +kernel)
theorem dX19_nearest_19 : decode cX19_nearest 19 = .ok (.ldiv, 1) := dc_109 (by decide +kernel)
theorem dX19_nearest_20 : decode cX19_nearest 20 = .ok (.lstore 4, 2) := dc_55 (a := 4) (by decide +kernel)
theorem dX19_nearest_22 : decode cX19_nearest 22 = .ok (.lload_n 0, 1) := dc_30 (by decide +kernel)
theorem dX19_nearest_23 : decode cX19_nearest 23 = .ok (.lload 4, 2) := dc_22 (a := 4) (by decide +kernel)
theorem dX19_nearest_25 : decode cX19_nearest 25 = .ok (.ladd, 1) := dc_97 (by decide +kernel)
theorem dX19_nearest_26 : decode cX19_nearest 26 = .ok (.lload_n 2, 1) := dc_32 (by decide +kernel)
theorem dX19_nearest_27 : decode cX19_nearest 27 = .ok (.ldiv, 1) := dc_109 (by decide +kernel)
theorem dX19_nearest_28 : decode cX19_nearest 28 = .ok (.lreturn, 1) := dc_173 (by decide +kernel)
def fX19_nearest_b20 (l0 : Int64) (l2 : Int64) (s0 : Int64) (h : eH) : Option (Int64 × eH) :=
  if l2 = 0 then none else
  some (((l0 + s0) / l2), h)
theorem pX19_nearest_b20 {w : eW} {d : Nat} (hd : 0 ≤ d) {l0 : Int64} {l2 : Int64} {s0 : Int64} {h : eH} {q} (hf : fX19_nearest_b20 l0 l2 s0 h = some q) : wp w d YX19_nearest 20 [some (.long l0), none, some (.long l2), none, none, none] [.long s0] h (e_is (e_rn c_J q)) := by
  unfold fX19_nearest_b20 at hf
  refine w_lstore dX19_nearest_20 (by decide) (ls' := [some (.long l0), none, some (.long l2), none, some (.long s0), none]) rfl ?_
  refine w_lload_n dX19_nearest_22 rfl rfl ?_
  refine w_lload dX19_nearest_23 rfl ?_
  refine w_ladd dX19_nearest_25 ?_
  refine w_lload_n dX19_nearest_26 rfl rfl ?_
  by_cases c1 : l2 = 0
  · exact absurd ((if_pos c1).symm.trans hf) (by simp)
  replace hf := (if_neg c1).symm.trans hf
  refine w_ldiv dX19_nearest_27 c1 ?_
  cases hf
  exact w_lret dX19_nearest_28 rfl rfl
def fX19_nearest (p0 : Int64) (p1 : Int64) (h : eH) : Option (Int64 × eH) :=
  if 0 ≤ (lg_cmp p0 (0 : Int64)) then
    fX19_nearest_b20 p0 p1 (p1 / (2 : Int64)) h
  else
    fX19_nearest_b20 p0 p1 (-(p1 / (2 : Int64))) h
theorem pX19_nearest {w : eW} {d : Nat} (hd : 0 ≤ d) {p0 : Int64} {p1 : Int64} {h : eH} {q} (hf : fX19_nearest p0 p1 h = some q) : wm w d YX19_nearest [.long p0, .long p1] h (e_is (e_rn c_J q)) := by
  show wp w d YX19_nearest 0 [some (.long p0), none, some (.long p1), none, none, none] [] h _
  unfold fX19_nearest at hf
  refine w_lload_n dX19_nearest_0 rfl rfl ?_
  refine w_lconst dX19_nearest_1 (v := 0) (by decide) ?_
  refine w_lcmp dX19_nearest_2 ?_
  refine w_if_ge 15 dX19_nearest_3 (by decide) (fun c1 => ?_) (fun c1 => ?_)
  · replace hf := (if_pos (show 0 ≤ (lg_cmp p0 (0 : Int64)) from c1)).symm.trans hf
    refine w_lload_n dX19_nearest_15 rfl rfl ?_
    refine w_ldc2 dX19_nearest_16 q3640 ?_
    refine w_ldiv dX19_nearest_19 (by decide) ?_
    exact (pX19_nearest_b20 hd hf).to ⟨rfl, rfl, trivial⟩
  · replace hf := (if_neg (show ¬ (0 ≤ (lg_cmp p0 (0 : Int64))) from c1)).symm.trans hf
    refine w_lload_n dX19_nearest_6 rfl rfl ?_
    refine w_ldc2 dX19_nearest_7 q3640 ?_
    refine w_ldiv dX19_nearest_10 (by decide) ?_
    refine w_lneg dX19_nearest_11 ?_
    refine w_goto 20 dX19_nearest_12 (by decide) ?_
    exact (pX19_nearest_b20 hd hf).to ⟨rfl, rfl, trivial⟩
abbrev cX19_shareOf : ByteArray := prog_19_method_15_code
def yX19_shareOf : MethodName := ⟨RX19, "shareOf", "(IZI)I"⟩
def YX19_shareOf : eY := (yX19_shareOf, cX19_shareOf, 5, (Option.some FieldType.int), [])
theorem mX19_shareOf : e_mv YX19_shareOf RX19 3 := ⟨q3643, qs155, q3644, by decide, by decide +kernel, (e_sig (by decide +kernel))⟩
theorem dX19_shareOf_0 : decode cX19_shareOf 0 = .ok (.iload_n 2, 1) := dc_28 (by decide +kernel)
theorem dX19_shareOf_1 : decode cX19_shareOf 1 = .ok (.ifCond .eq 7, 3) := dc_153 (a := 0) (b := 7) (v := 7) (by decide +kernel)
theorem dX19_shareOf_4 : decode cX19_shareOf 4 = .ok (.iconst 3, 1) := dc_6 (by decide +kernel)
theorem dX19_shareOf_5 : decode cX19_shareOf 5 = .ok (.goto 4, 3) := dc_167 (a := 0) (b := 4) (v := 4) (by decide +kernel)
theorem dX19_shareOf_8 : decode cX19_shareOf 8 = .ok (.iconst 1, 1) := dc_4 (by decide +kernel)
theorem dX19_shareOf_9 : decode cX19_shareOf 9 = .ok (.istore 4, 2) := dc_54 (a := 4) (by decide +kernel)
theorem dX19_shareOf_11 : decode cX19_shareOf 11 = .ok (.aload_n 0, 1) := dc_42 (by decide +kernel)
theorem dX19_shareOf_12 : decode cX19_shareOf 12 = .ok (.getfield 18, 3) := dc_180 (a := 0) (b := 18) (n := 18) (by decide +kernel)
theorem dX19_shareOf_15 : decode cX19_shareOf 15 = .ok (.iload_n 1, 1) := dc_27 (by decide +kernel)
theorem dX19_shareOf_16 : decode cX19_shareOf 16 = .ok (.iload 4, 2) := dc_21 (a := 4) (by decide +kernel)
theorem dX19_shareOf_18 : decode cX19_shareOf 18 = .ok (.iconst 1, 1) := dc_4 (by decide +kernel)
theorem dX19_shareOf_19 : decode cX19_shareOf 19 = .ok (.iadd, 1) := dc_96 (by decide +kernel)
theorem dX19_shareOf_20 : decode cX19_shareOf 20 = .ok (.invokevirtual 73, 3) := dc_182 (a := 0) (b := 73) (n := 73) (by decide +kernel)
theorem dX19_shareOf_23 : decode cX19_shareOf 23 = .ok (.iload_n 3, 1) := dc_29 (by decide +kernel)
theorem dX19_shareOf_24 : decode cX19_shareOf 24 = .ok (.if_icmp .ne 16, 3) := dc_160 (a := 0) (b := 16) (v := 16) (by decide +kernel)
theorem dX19_shareOf_27 : decode cX19_shareOf 27 = .ok (.aload_n 0, 1) := dc_42 (by decide +kernel)
theorem dX19_shareOf_28 : decode cX19_shareOf 28 = .ok (.getfield 18, 3) := dc_180 (a := 0) (b := 18) (n := 18) (by decide +kernel)
theorem dX19_shareOf_31 : decode cX19_shareOf 31 = .ok (.iload_n 1, 1) := dc_27 (by decide +kernel)
theorem dX19_shareOf_32 : decode cX19_shareOf 32 = .ok (.iload 4, 2) := dc_21 (a := 4) (by decide +kernel)
theorem dX19_shareOf_34 : decode cX19_shareOf 34 = .ok (.invokevirtual 73, 3) := dc_182 (a := 0) (b := 73) (n := 73) (by decide +kernel)
theorem dX19_shareOf_37 : decode cX19_shareOf 37 = .ok (.goto 4, 3) := dc_167 (a := 0) (b := 4) (v := 4) (by decide +kernel)
theorem dX19_shareOf_40 : decode cX19_shareOf 40 = .ok (.iconst 0, 1) := dc_3 (by decide +kernel)
theorem dX19_shareOf_41 : decode cX19_shareOf 41 = .ok (.ireturn, 1) := dc_172 (by decide +kernel)
def fX19_shareOf_b41 (s0 : Int32) (h : eH) : Option (Int32 × eH) :=
  some (s0, h)
theorem pX19_shareOf_b41 {w : eW} {d : Nat} (hd : 1 ≤ d + 1) {s0 : Int32} {h : eH} {q} (hf : fX19_shareOf_b41 s0 h = some q) : wp w (d + 1) YX19_shareOf 41 [none, none, none, none, none] [.int s0] h (e_is (e_rn c_I q)) := by
  unfold fX19_shareOf_b41 at hf
  cases hf
  exact w_iret dX19_shareOf_41 rfl rfl rfl
def fX19_shareOf_b9 (l0 : Nat) (l1 : Int32) (l3 : Int32) (s0 : Int32) (h : eH) : Option (Int32 × eH) :=
  (g_A 18 h l0 0).bind fun a1 =>
  (k_ok 6 h a1).bind fun _ =>
  (fX7_of a1 l1 (s0 + (1 : Int32)) h).bind fun q4 =>
  if ¬ q4.1 = l3 then
    fX19_shareOf_b41 (0 : Int32) q4.2
  else
    (g_A 18 q4.2 l0 0).bind fun a6 =>
    (k_ok 6 q4.2 a6).bind fun _ =>
    (fX7_of a6 l1 s0 q4.2).bind fun q9 =>
    fX19_shareOf_b41 q9.1 q9.2
theorem pX19_shareOf_b9 {w : eW} {d : Nat} (hd : 1 ≤ d + 1) {l0 : Nat} {l1 : Int32} {l3 : Int32} {s0 : Int32} {h : eH} {q} (hf : fX19_shareOf_b9 l0 l1 l3 s0 h = some q) : wp w (d + 1) YX19_shareOf 9 [some (.ref l0), some (.int l1), none, some (.int l3), none] [.int s0] h (e_is (e_rn c_I q)) := by
  unfold fX19_shareOf_b9 at hf
  refine w_istore dX19_shareOf_9 (by decide) (ls' := [some (.ref l0), some (.int l1), none, some (.int l3), some (.int s0)]) rfl ?_
  refine w_aload_n dX19_shareOf_11 rfl rfl ?_
  obtain ⟨a1, b2, hf⟩ := Option.bind_eq_some_iff.mp hf
  refine GX19_18 b2 dX19_shareOf_12 rfl ?_
  refine w_iload_n dX19_shareOf_15 rfl rfl ?_
  refine w_iload dX19_shareOf_16 rfl ?_
  refine w_iconst dX19_shareOf_18 (v := 1) (by decide) ?_
  refine w_iadd dX19_shareOf_19 ?_
  obtain ⟨_, b3, hf⟩ := Option.bind_eq_some_iff.mp hf
  refine x_cnI hf (e_stV (Yc := YX7_of) (ci := 6) (av := [.int l1, .int (s0 + (1 : Int32))]) (st := []) dX19_shareOf_20 q3584 mX7_of rfl (k_ok_some b3).1 (k_ok_some b3).2) mX7_of.2.2.1 mX7_of.2.2.2.2.1 (Nat.le_of_ble_eq_true rfl) (Nat.le_of_ble_eq_true rfl) (fun q hq => pX7_of (by omega) hq) (fun q4 hf => ?_)
  refine w_iload_n dX19_shareOf_23 rfl rfl ?_
  refine w_icmp_ne 40 dX19_shareOf_24 (by decide) (fun c5 => ?_) (fun c5 => ?_)
  · replace hf := (if_pos (show ¬ q4.1 = l3 from c5)).symm.trans hf
    refine w_iconst dX19_shareOf_40 (v := 0) (by decide) ?_
    exact (pX19_shareOf_b41 hd hf).to trivial
  · replace hf := (if_neg (show ¬ (¬ q4.1 = l3) from (fun z => z c5))).symm.trans hf
    refine w_aload_n dX19_shareOf_27 rfl rfl ?_
    obtain ⟨a6, b7, hf⟩ := Option.bind_eq_some_iff.mp hf
    refine GX19_18 b7 dX19_shareOf_28 rfl ?_
    refine w_iload_n dX19_shareOf_31 rfl rfl ?_
    refine w_iload dX19_shareOf_32 rfl ?_
    obtain ⟨_, b8, hf⟩ := Option.bind_eq_some_iff.mp hf
    refine x_cnI hf (e_stV (Yc := YX7_of) (ci := 6) (av := [.int l1, .int s0]) (st := []) dX19_shareOf_34 q3584 mX7_of rfl (k_ok_some b8).1 (k_ok_some b8).2) mX7_of.2.2.1 mX7_of.2.2.2.2.1 (Nat.le_of_ble_eq_true rfl) (Nat.le_of_ble_eq_true rfl) (fun q hq => pX7_of (by omega) hq) (fun q9 hf => ?_)
    refine w_goto 41 dX19_shareOf_37 (by decide) ?_
    exact (pX19_shareOf_b41 hd hf).to trivial
def fX19_shareOf (this : Nat) (p0 : Int32) (p1 : Int32) (p2 : Int32) (h : eH) : Option (Int32 × eH) :=
  if p1 = 0 then
    fX19_shareOf_b9 this p0 p2 (1 : Int32) h
  else
    fX19_shareOf_b9 this p0 p2 (3 : Int32) h
theorem pX19_shareOf {w : eW} {d : Nat} (hd : 1 ≤ d) {this : Nat} {p0 : Int32} {p1 : Int32} {p2 : Int32} {h : eH} {q} (hf : fX19_shareOf this p0 p1 p2 h = some q) : wm w d YX19_shareOf [.ref this, .int p0, .int p1, .int p2] h (e_is (e_rn c_I q)) := by
  obtain ⟨d, rfl⟩ : ∃ e, d = e + 1 := ⟨d - 1, by omega⟩
  show wp w (d + 1) YX19_shareOf 0 [some (.ref this), some (.int p0), some (.int p1), some (.int p2), none] [] h _
  unfold fX19_shareOf at hf
  refine w_iload_n dX19_shareOf_0 rfl rfl ?_
  refine w_if_eq 8 dX19_shareOf_1 (by decide) (fun c1 => ?_) (fun c1 => ?_)
  · replace hf := (if_pos (show p1 = 0 from c1)).symm.trans hf
    refine w_iconst dX19_shareOf_8 (v := 1) (by decide) ?_
    exact (pX19_shareOf_b9 hd hf).to ⟨rfl, rfl, rfl, trivial⟩
  · replace hf := (if_neg (show ¬ (p1 = 0) from c1)).symm.trans hf
    refine w_iconst dX19_shareOf_4 (v := 3) (by decide) ?_
    refine w_goto 9 dX19_shareOf_5 (by decide) ?_
    exact (pX19_shareOf_b9 hd hf).to ⟨rfl, rfl, rfl, trivial⟩
abbrev cX19_settle : ByteArray := prog_19_method_14_code
def yX19_settle : MethodName := ⟨RX19, "settle", "(LTypeHouse$Box;)V"⟩
def YX19_settle : eY := (yX19_settle, cX19_settle, 10, none, [])
theorem mX19_settle : e_mv YX19_settle RX19 1 := ⟨q3634, q3635, q3636, by decide, by decide +kernel, (e_sig (by decide +kernel))⟩
theorem dX19_settle_0 : decode cX19_settle 0 = .ok (.aload_n 0, 1) := dc_42 (by decide +kernel)
theorem dX19_settle_1 : decode cX19_settle 1 = .ok (.aload_n 1, 1) := dc_43 (by decide +kernel)
theorem dX19_settle_2 : decode cX19_settle 2 = .ok (.getfield 139, 3) := dc_180 (a := 0) (b := 139) (n := 139) (by decide +kernel)
theorem dX19_settle_5 : decode cX19_settle 5 = .ok (.invokevirtual 140, 3) := dc_182 (a := 0) (b := 140) (n := 140) (by decide +kernel)
theorem dX19_settle_8 : decode cX19_settle 8 = .ok (.aload_n 1, 1) := dc_43 (by decide +kernel)
theorem dX19_settle_9 : decode cX19_settle 9 = .ok (.getfield 127, 3) := dc_180 (a := 0) (b := 127) (n := 127) (by decide +kernel)
theorem dX19_settle_12 : decode cX19_settle 12 = .ok (.ifCond .le 12, 3) := dc_158 (a := 0) (b := 12) (v := 12) (by decide +kernel)
theorem dX19_settle_15 : decode cX19_settle 15 = .ok (.aload_n 1, 1) := dc_43 (by decide +kernel)
theorem dX19_settle_16 : decode cX19_settle 16 = .ok (.getfield 124, 3) := dc_180 (a := 0) (b := 124) (n := 124) (by decide +kernel)
theorem dX19_settle_19 : decode cX19_settle 19 = .ok (.ineg, 1) := dc_116 (by decide +kernel)
theorem dX19_settle_20 : decode cX19_settle 20 = .ok (.i2l, 1) := dc_133 (by decide +kernel)
theorem dX19_settle_21 : decode cX19_settle 21 = .ok (.goto 8, 3) := dc_167 (a := 0) (b := 8) (v := 8) (by decide +kernel)
theorem dX19_settle_24 : decode cX19_settle 24 = .ok (.aload_n 1, 1) := dc_43 (by decide +kernel)
theorem dX19_settle_25 : decode cX19_settle 25 = .ok (.getfield 114, 3) := dc_180 (a := 0) (b := 114) (n := 114) (by decide +kernel)
theorem dX19_settle_28 : decode cX19_settle 28 = .ok (.i2l, 1) := dc_133 (by decide +kernel)
theorem dX19_settle_29 : decode cX19_settle 29 = .ok (.lstore_n 2, 1) := dc_65 (by decide +kernel)
theorem dX19_settle_30 : decode cX19_settle 30 = .ok (.lconst 0, 1) := dc_9 (by decide +kernel)
theorem dX19_settle_31 : decode cX19_settle 31 = .ok (.lstore 4, 2) := dc_55 (a := 4) (by decide +kernel)
theorem dX19_settle_33 : decode cX19_settle 33 = .ok (.aload_n 1, 1) := dc_43 (by decide +kernel)
theorem dX19_settle_34 : decode cX19_settle 34 = .ok (.getfield 150, 3) := dc_180 (a := 0) (b := 150) (n := 150) (by decide +kernel)
theorem dX19_settle_37 : decode cX19_settle 37 = .ok (.istore 6, 2) := dc_54 (a := 6) (by decide +kernel)
theorem dX19_settle_39 : decode cX19_settle 39 = .ok (.iload 6, 2) := dc_21 (a := 6) (by decide +kernel)
theorem dX19_settle_41 : decode cX19_settle 41 = .ok (.aload_n 1, 1) := dc_43 (by decide +kernel)
theorem dX19_settle_42 : decode cX19_settle 42 = .ok (.getfield 147, 3) := dc_180 (a := 0) (b := 147) (n := 147) (by decide +kernel)
theorem dX19_settle_45 : decode cX19_settle 45 = .ok (.if_icmp .ge 153, 3) := dc_162 (a := 0) (b := 153) (v := 153) (by decide +kernel)
theorem dX19_settle_48 : decode cX19_settle 48 = .ok (.aload_n 0, 1) := dc_42 (by decide +kernel)
theorem dX19_settle_49 : decode cX19_settle 49 = .ok (.getfield 18, 3) := dc_180 (a := 0) (b := 18) (n := 18) (by decide +kernel)
theorem dX19_settle_52 : decode cX19_settle 52 = .ok (.iload 6, 2) := dc_21 (a := 6) (by decide +kernel)
theorem dX19_settle_54 : decode cX19_settle 54 = .ok (.invokevirtual 87, 3) := dc_182 (a := 0) (b := 87) (n := 87) (by decide +kernel)
theorem dX19_settle_57 : decode cX19_settle 57 = .ok (.iconst 2, 1) := dc_5 (by decide +kernel)
theorem dX19_settle_58 : decode cX19_settle 58 = .ok (.if_icmp .eq 20, 3) := dc_159 (a := 0) (b := 20) (v := 20) (by decide +kernel)
theorem dX19_settle_61 : decode cX19_settle 61 = .ok (.aload_n 0, 1) := dc_42 (by decide +kernel)
theorem dX19_settle_62 : decode cX19_settle 62 = .ok (.getfield 18, 3) := dc_180 (a := 0) (b := 18) (n := 18) (by decide +kernel)
theorem dX19_settle_65 : decode cX19_settle 65 = .ok (.iload 6, 2) := dc_21 (a := 6) (by decide +kernel)
theorem dX19_settle_67 : decode cX19_settle 67 = .ok (.invokevirtual 87, 3) := dc_182 (a := 0) (b := 87) (n := 87) (by decide +kernel)
theorem dX19_settle_70 : decode cX19_settle 70 = .ok (.iconst 3, 1) := dc_6 (by decide +kernel)
theorem dX19_settle_71 : decode cX19_settle 71 = .ok (.if_icmp .eq 7, 3) := dc_159 (a := 0) (b := 7) (v := 7) (by decide +kernel)
theorem dX19_settle_74 : decode cX19_settle 74 = .ok (.iconst 1, 1) := dc_4 (by decide +kernel)
theorem dX19_settle_75 : decode cX19_settle 75 = .ok (.goto 4, 3) := dc_167 (a := 0) (b := 4) (v := 4) (by decide +kernel)
theorem dX19_settle_78 : decode cX19_settle 78 = .ok (.iconst 0, 1) := dc_3 (by decide +kernel)
theorem dX19_settle_79 : decode cX19_settle 79 = .ok (.istore 7, 2) := dc_54 (a := 7) (by decide +kernel)
theorem dX19_settle_81 : decode cX19_settle 81 = .ok (.aload_n 1, 1) := dc_43 (by decide +kernel)
theorem dX19_settle_82 : decode cX19_settle 82 = .ok (.getfield 124, 3) := dc_180 (a := 0) (b := 124) (n := 124) (by decide +kernel)
theorem dX19_settle_85 : decode cX19_settle 85 = .ok (.ifCond .ne 7, 3) := dc_154 (a := 0) (b := 7) (v := 7) (by decide +kernel)
theorem dX19_settle_88 : decode cX19_settle 88 = .ok (.lconst 0, 1) := dc_9 (by decide +kernel)
theorem dX19_settle_89 : decode cX19_settle 89 = .ok (.goto 15, 3) := dc_167 (a := 0) (b := 15) (v := 15) (by decide +kernel)
theorem dX19_settle_92 : decode cX19_settle 92 = .ok (.lload 4, 2) := dc_22 (a := 4) (by decide +kernel)
theorem dX19_settle_94 : decode cX19_settle 94 = .ok (.lload_n 2, 1) := dc_32 (by decide +kernel)
theorem dX19_settle_95 : decode cX19_settle 95 = .ok (.lmul, 1) := dc_105 (by decide +kernel)
theorem dX19_settle_96 : decode cX19_settle 96 = .ok (.aload_n 1, 1) := dc_43 (by decide +kernel)
theorem dX19_settle_97 : decode cX19_settle 97 = .ok (.getfield 124, 3) := dc_180 (a := 0) (b := 124) (n := 124) (by decide +kernel)
theorem dX19_settle_100 : decode cX19_settle 100 = .ok (.i2l, 1) := dc_133 (by decide +kernel)
theorem dX19_settle_101 : decode cX19_settle 101 = .ok (.invokestatic 170, 3) := dc_184 (a := 0) (b := 170) (n := 170) (by decide +kernel)
theorem dX19_settle_104 : decode cX19_settle 104 = .ok (.lstore 8, 2) := dc_55 (a := 8) (by decide +kernel)
theorem dX19_settle_106 : decode cX19_settle 106 = .ok (.aload_n 0, 1) := dc_42 (by decide +kernel)
theorem dX19_settle_107 : decode cX19_settle 107 = .ok (.getfield 18, 3) := dc_180 (a := 0) (b := 18) (n := 18) (by decide +kernel)
theorem dX19_settle_110 : decode cX19_settle 110 = .ok (.getfield 173, 3) := dc_180 (a := 0) (b := 173) (n := 173) (by decide +kernel)
theorem dX19_settle_113 : decode cX19_settle 113 = .ok (.iload 6, 2) := dc_21 (a := 6) (by decide +kernel)
theorem dX19_settle_115 : decode cX19_settle 115 = .ok (.aload_n 0, 1) := dc_42 (by decide +kernel)
theorem dX19_settle_116 : decode cX19_settle 116 = .ok (.getfield 37, 3) := dc_180 (a := 0) (b := 37) (n := 37) (by decide +kernel)
theorem dX19_settle_119 : decode cX19_settle 119 = .ok (.aload_n 0, 1) := dc_42 (by decide +kernel)
theorem dX19_settle_120 : decode cX19_settle 120 = .ok (.getfield 34, 3) := dc_180 (a := 0) (b := 34) (n := 34) (by decide +kernel)
theorem dX19_settle_123 : decode cX19_settle 123 = .ok (.ifCond .eq 15, 3) := dc_153 (a := 0) (b := 15) (v := 15) (by decide +kernel)
theorem dX19_settle_126 : decode cX19_settle 126 = .ok (.iload 7, 2) := dc_21 (a := 7) (by decide +kernel)
theorem dX19_settle_128 : decode cX19_settle 128 = .ok (.ifCond .eq 10, 3) := dc_153 (a := 0) (b := 10) (v := 10) (by decide +kernel)
theorem dX19_settle_131 : decode cX19_settle 131 = .ok (.aload_n 0, 1) := dc_42 (by decide +kernel)
theorem dX19_settle_132 : decode cX19_settle 132 = .ok (.getfield 47, 3) := dc_180 (a := 0) (b := 47) (n := 47) (by decide +kernel)
theorem dX19_settle_135 : decode cX19_settle 135 = .ok (.goto 4, 3) := dc_167 (a := 0) (b := 4) (v := 4) (by decide +kernel)
theorem dX19_settle_138 : decode cX19_settle 138 = .ok (.lconst 0, 1) := dc_9 (by decide +kernel)
theorem dX19_settle_139 : decode cX19_settle 139 = .ok (.ladd, 1) := dc_97 (by decide +kernel)
theorem dX19_settle_140 : decode cX19_settle 140 = .ok (.lload 8, 2) := dc_22 (a := 8) (by decide +kernel)
theorem dX19_settle_142 : decode cX19_settle 142 = .ok (.ladd, 1) := dc_97 (by decide +kernel)
theorem dX19_settle_143 : decode cX19_settle 143 = .ok (.l2i, 1) := dc_136 (by decide +kernel)
theorem dX19_settle_144 : decode cX19_settle 144 = .ok (.iastore, 1) := dc_79 (by decide +kernel)
theorem dX19_settle_145 : decode cX19_settle 145 = .ok (.aload_n 0, 1) := dc_42 (by decide +kernel)
theorem dX19_settle_146 : decode cX19_settle 146 = .ok (.getfield 18, 3) := dc_180 (a := 0) (b := 18) (n := 18) (by decide +kernel)
theorem dX19_settle_149 : decode cX19_settle 149 = .ok (.iload 6, 2) := dc_21 (a := 6) (by decide +kernel)
theorem dX19_settle_151 : decode cX19_settle 151 = .ok (.invokevirtual 87, 3) := dc_182 (a := 0) (b := 87) (n := 87) (by decide +kernel)
theorem dX19_settle_154 : decode cX19_settle 154 = .ok (.iconst 2, 1) := dc_5 (by decide +kernel)
theorem dX19_settle_155 : decode cX19_settle 155 = .ok (.if_icmp .ne 31, 3) := dc_160 (a := 0) (b := 31) (v := 31) (by decide +kernel)
theorem dX19_settle_158 : decode cX19_settle 158 = .ok (.lload 4, 2) := dc_22 (a := 4) (by decide +kernel)
theorem dX19_settle_160 : decode cX19_settle 160 = .ok (.aload_n 0, 1) := dc_42 (by decide +kernel)
theorem dX19_settle_161 : decode cX19_settle 161 = .ok (.iload 6, 2) := dc_21 (a := 6) (by decide +kernel)
theorem dX19_settle_163 : decode cX19_settle 163 = .ok (.aload_n 1, 1) := dc_43 (by decide +kernel)
theorem dX19_settle_164 : decode cX19_settle 164 = .ok (.getfield 114, 3) := dc_180 (a := 0) (b := 114) (n := 114) (by decide +kernel)
theorem dX19_settle_167 : decode cX19_settle 167 = .ok (.ifCond .ge 7, 3) := dc_156 (a := 0) (b := 7) (v := 7) (by decide +kernel)
theorem dX19_settle_170 : decode cX19_settle 170 = .ok (.iconst 1, 1) := dc_4 (by decide +kernel)
theorem dX19_settle_171 : decode cX19_settle 171 = .ok (.goto 4, 3) := dc_167 (a := 0) (b := 4) (v := 4) (by decide +kernel)
theorem dX19_settle_174 : decode cX19_settle 174 = .ok (.iconst 0, 1) := dc_3 (by decide +kernel)
theorem dX19_settle_175 : decode cX19_settle 175 = .ok (.aload_n 1, 1) := dc_43 (by decide +kernel)
theorem dX19_settle_176 : decode cX19_settle 176 = .ok (.getfield 121, 3) := dc_180 (a := 0) (b := 121) (n := 121) (by decide +kernel)
theorem dX19_settle_179 : decode cX19_settle 179 = .ok (.invokevirtual 177, 3) := dc_182 (a := 0) (b := 177) (n := 177) (by decide +kernel)
theorem dX19_settle_182 : decode cX19_settle 182 = .ok (.i2l, 1) := dc_133 (by decide +kernel)
theorem dX19_settle_183 : decode cX19_settle 183 = .ok (.ladd, 1) := dc_97 (by decide +kernel)
theorem dX19_settle_184 : decode cX19_settle 184 = .ok (.lstore 4, 2) := dc_55 (a := 4) (by decide +kernel)
theorem dX19_settle_186 : decode cX19_settle 186 = .ok (.aload_n 0, 1) := dc_42 (by decide +kernel)
theorem dX19_settle_187 : decode cX19_settle 187 = .ok (.iload 6, 2) := dc_21 (a := 6) (by decide +kernel)
theorem dX19_settle_189 : decode cX19_settle 189 = .ok (.invokevirtual 153, 3) := dc_182 (a := 0) (b := 153) (n := 153) (by decide +kernel)
theorem dX19_settle_192 : decode cX19_settle 192 = .ok (.iinc 6 1, 3) := dc_132 (a := 6) (b := 1) (v := 1) (by decide +kernel)
theorem dX19_settle_195 : decode cX19_settle 195 = .ok (.goto (-156), 3) := dc_167 (a := 255) (b := 100) (v := -156) (by decide +kernel)
theorem dX19_settle_198 : decode cX19_settle 198 = .ok (.return_, 1) := dc_177 (by decide +kernel)
theorem GX19_114 {w : eW} {d : Nat} {Y : eY} {pc : Nat} {ls : eL} {st : List Value} {h : eH} {Q : eO → eH → Prop} {a : Nat} {x : Int32} (hf : g_I 41 h a 6 = some x) (hd : decode Y.2.1 pc = .ok (.getfield 114, 3)) (hY : Y.1.cls = RX19) (kk : wp w d Y (pc + 3) ls (.int x :: st) h Q) : wp w d Y pc ls (.ref a :: st) h Q := x_gIN (ci := 41) (k := 6) hf hd rfl (by decide) (by rw [hY]; exact q3527) kk
theorem GX19_127 {w : eW} {d : Nat} {Y : eY} {pc : Nat} {ls : eL} {st : List Value} {h : eH} {Q : eO → eH → Prop} {a : Nat} {x : Int32} (hf : g_I 41 h a 10 = some x) (hd : decode Y.2.1 pc = .ok (.getfield 127, 3)) (hY : Y.1.cls = RX19) (kk : wp w d Y (pc + 3) ls (.int x :: st) h Q) : wp w d Y pc ls (.ref a :: st) h Q := x_gIN (ci := 41) (k := 10) hf hd rfl (by decide) (by rw [hY]; exact q3535) kk
theorem GX19_173 {w : eW} {d : Nat} {Y : eY} {pc : Nat} {ls : eL} {st : List Value} {h : eH} {Q : eO → eH → Prop} {a : Nat} {x : Nat} (hf : g_A 6 h a 2 = some x) (hd : decode Y.2.1 pc = .ok (.getfield 173, 3)) (hY : Y.1.cls = RX19) (kk : wp w d Y (pc + 3) ls (.ref x :: st) h Q) : wp w d Y pc ls (.ref a :: st) h Q := x_gAN (ci := 6) (k := 2) hf hd rfl (by decide) (by rw [hY]; exact q624) kk
def fX19_settle_b186 (N : Nat) (k39 : Nat → Nat → Int64 → Int64 → Int32 → eH → Option (Unit × eH)) (l0 : Nat) (l1 : Nat) (l2 : Int64) (l4 : Int64) (l6 : Int32) (h : eH) : Option (Unit × eH) :=
  (k_ok 18 h l0).bind fun _ =>
  (fX19_add l0 l6 h).bind fun q2 =>
  k39 l0 l1 l2 l4 (l6 + (1 : Int32)) q2.2
theorem pX19_settle_b186 {w : eW} {d : Nat} (hd : 5 ≤ d + 1) {N : Nat} {k39 : Nat → Nat → Int64 → Int64 → Int32 → eH → Option (Unit × eH)} (hk39 : ∀ l0 l1 l2 l4 l6 h q, k39 l0 l1 l2 l4 l6 h = some q → wp w (d + 1) YX19_settle 39 [some (.ref l0), some (.ref l1), some (.long l2), none, some (.long l4), none, some (.int l6), none, none, none] [] h (e_is (e_rn c_V q))) {l0 : Nat} {l1 : Nat} {l2 : Int64} {l4 : Int64} {l6 : Int32} {h : eH} {q} (hf : fX19_settle_b186 N k39 l0 l1 l2 l4 l6 h = some q) : wp w (d + 1) YX19_settle 186 [some (.ref l0), some (.ref l1), some (.long l2), none, some (.long l4), none, some (.int l6), none, none, none] [] h (e_is (e_rn c_V q)) := by
  unfold fX19_settle_b186 at hf
  refine w_aload_n dX19_settle_186 rfl rfl ?_
  refine w_iload dX19_settle_187 rfl ?_
  obtain ⟨_, b1, hf⟩ := Option.bind_eq_some_iff.mp hf
  refine x_cnV hf (e_stV (Yc := YX19_add) (ci := 18) (av := [.int l6]) (st := []) dX19_settle_189 q3579 mX19_add rfl (k_ok_some b1).1 (k_ok_some b1).2) mX19_add.2.2.1 mX19_add.2.2.2.2.1 (Nat.le_of_ble_eq_true rfl) (Nat.le_of_ble_eq_true rfl) (fun q hq => pX19_add (by omega) hq) (fun q2 hf => ?_)
  refine w_iinc dX19_settle_192 (v := (l6 + (1 : Int32))) rfl rfl (by decide) (ls' := [some (.ref l0), some (.ref l1), some (.long l2), none, some (.long l4), none, some (.int (l6 + (1 : Int32))), none, none, none]) rfl ?_
  refine w_goto 39 dX19_settle_195 (by decide) ?_
  exact (hk39 _ _ _ _ _ _ _ hf).to ⟨rfl, rfl, rfl, rfl, rfl, trivial⟩
def fX19_settle_b175 (N : Nat) (k39 : Nat → Nat → Int64 → Int64 → Int32 → eH → Option (Unit × eH)) (l0 : Nat) (l1 : Nat) (l2 : Int64) (l6 : Int32) (s0 : Int64) (s1 : Nat) (s2 : Int32) (s3 : Int32) (h : eH) : Option (Unit × eH) :=
  (g_I 41 h l1 7).bind fun x1 =>
  (k_ok 18 h s1).bind fun _ =>
  (fX19_shareOf s1 s2 s3 x1 h).bind fun q4 =>
  fX19_settle_b186 N k39 l0 l1 l2 (s0 + (q4.1).toInt64) l6 q4.2
theorem pX19_settle_b175 {w : eW} {d : Nat} (hd : 5 ≤ d + 1) {N : Nat} {k39 : Nat → Nat → Int64 → Int64 → Int32 → eH → Option (Unit × eH)} (hk39 : ∀ l0 l1 l2 l4 l6 h q, k39 l0 l1 l2 l4 l6 h = some q → wp w (d + 1) YX19_settle 39 [some (.ref l0), some (.ref l1), some (.long l2), none, some (.long l4), none, some (.int l6), none, none, none] [] h (e_is (e_rn c_V q))) {l0 : Nat} {l1 : Nat} {l2 : Int64} {l6 : Int32} {s0 : Int64} {s1 : Nat} {s2 : Int32} {s3 : Int32} {h : eH} {q} (hf : fX19_settle_b175 N k39 l0 l1 l2 l6 s0 s1 s2 s3 h = some q) : wp w (d + 1) YX19_settle 175 [some (.ref l0), some (.ref l1), some (.long l2), none, none, none, some (.int l6), none, none, none] [.int s3, .int s2, .ref s1, .long s0] h (e_is (e_rn c_V q)) := by
  unfold fX19_settle_b175 at hf
  refine w_aload_n dX19_settle_175 rfl rfl ?_
  obtain ⟨x1, b2, hf⟩ := Option.bind_eq_some_iff.mp hf
  refine GX19_121 b2 dX19_settle_176 rfl ?_
  obtain ⟨_, b3, hf⟩ := Option.bind_eq_some_iff.mp hf
  refine x_cnI hf (e_stV (Yc := YX19_shareOf) (ci := 18) (av := [.int s2, .int s3, .int x1]) (st := [.long s0]) dX19_settle_179 q3641 mX19_shareOf rfl (k_ok_some b3).1 (k_ok_some b3).2) mX19_shareOf.2.2.1 mX19_shareOf.2.2.2.2.1 (Nat.le_of_ble_eq_true rfl) (Nat.le_of_ble_eq_true rfl) (fun q hq => pX19_shareOf (by omega) hq) (fun q4 hf => ?_)
  refine w_i2l dX19_settle_182 ?_
  refine w_ladd dX19_settle_183 ?_
  refine w_lstore dX19_settle_184 (by decide) (ls' := [some (.ref l0), some (.ref l1), some (.long l2), none, some (.long (s0 + (q4.1).toInt64)), none, some (.int l6), none, none, none]) rfl ?_
  exact (pX19_settle_b186 hd hk39 hf).to ⟨rfl, rfl, rfl, rfl, rfl, trivial⟩
def fX19_settle_b139 (N : Nat) (k39 : Nat → Nat → Int64 → Int64 → Int32 → eH → Option (Unit × eH)) (l0 : Nat) (l1 : Nat) (l2 : Int64) (l4 : Int64) (l6 : Int32) (l8 : Int64) (s0 : Nat) (s1 : Int32) (s2 : Int64) (s3 : Int64) (h : eH) : Option (Unit × eH) :=
  (q_V 100 h s0 s1 (.int (((s2 + s3) + l8)).toInt32)).bind fun h1 =>
  (g_A 18 h1 l0 0).bind fun a3 =>
  (k_ok 6 h1 a3).bind fun _ =>
  (fX7_kind a3 l6 h1).bind fun q6 =>
  if ¬ q6.1 = (2 : Int32) then
    fX19_settle_b186 N k39 l0 l1 l2 l4 l6 q6.2
  else
    (g_I 41 q6.2 l1 6).bind fun x8 =>
    if 0 ≤ x8 then
      fX19_settle_b175 N k39 l0 l1 l2 l6 l4 l0 l6 (0 : Int32) q6.2
    else
      fX19_settle_b175 N k39 l0 l1 l2 l6 l4 l0 l6 (1 : Int32) q6.2
theorem pX19_settle_b139 {w : eW} {d : Nat} (hd : 5 ≤ d + 1) {N : Nat} {k39 : Nat → Nat → Int64 → Int64 → Int32 → eH → Option (Unit × eH)} (hk39 : ∀ l0 l1 l2 l4 l6 h q, k39 l0 l1 l2 l4 l6 h = some q → wp w (d + 1) YX19_settle 39 [some (.ref l0), some (.ref l1), some (.long l2), none, some (.long l4), none, some (.int l6), none, none, none] [] h (e_is (e_rn c_V q))) {l0 : Nat} {l1 : Nat} {l2 : Int64} {l4 : Int64} {l6 : Int32} {l8 : Int64} {s0 : Nat} {s1 : Int32} {s2 : Int64} {s3 : Int64} {h : eH} {q} (hf : fX19_settle_b139 N k39 l0 l1 l2 l4 l6 l8 s0 s1 s2 s3 h = some q) : wp w (d + 1) YX19_settle 139 [some (.ref l0), some (.ref l1), some (.long l2), none, some (.long l4), none, some (.int l6), none, some (.long l8), none] [.long s3, .long s2, .int s1, .ref s0] h (e_is (e_rn c_V q)) := by
  unfold fX19_settle_b139 at hf
  refine w_ladd dX19_settle_139 ?_
  refine w_lload dX19_settle_140 rfl ?_
  refine w_ladd dX19_settle_142 ?_
  refine w_l2i dX19_settle_143 ?_
  obtain ⟨h1, b2, hf⟩ := Option.bind_eq_some_iff.mp hf
  refine x_qI b2 dX19_settle_144 ?_
  refine w_aload_n dX19_settle_145 rfl rfl ?_
  obtain ⟨a3, b4, hf⟩ := Option.bind_eq_some_iff.mp hf
  refine GX19_18 b4 dX19_settle_146 rfl ?_
  refine w_iload dX19_settle_149 rfl ?_
  obtain ⟨_, b5, hf⟩ := Option.bind_eq_some_iff.mp hf
  refine x_cnI hf (e_stV (Yc := YX7_kind) (ci := 6) (av := [.int l6]) (st := []) dX19_settle_151 q3583 mX7_kind rfl (k_ok_some b5).1 (k_ok_some b5).2) mX7_kind.2.2.1 mX7_kind.2.2.2.2.1 (Nat.le_of_ble_eq_true rfl) (Nat.le_of_ble_eq_true rfl) (fun q hq => pX7_kind (by omega) hq) (fun q6 hf => ?_)
  refine w_iconst dX19_settle_154 (v := 2) (by decide) ?_
  refine w_icmp_ne 186 dX19_settle_155 (by decide) (fun c7 => ?_) (fun c7 => ?_)
  · replace hf := (if_pos (show ¬ q6.1 = (2 : Int32) from c7)).symm.trans hf
    exact (pX19_settle_b186 hd hk39 hf).to ⟨rfl, rfl, rfl, rfl, rfl, trivial⟩
  · replace hf := (if_neg (show ¬ (¬ q6.1 = (2 : Int32)) from (fun z => z c7))).symm.trans hf
    refine w_lload dX19_settle_158 rfl ?_
    refine w_aload_n dX19_settle_160 rfl rfl ?_
    refine w_iload dX19_settle_161 rfl ?_
    refine w_aload_n dX19_settle_163 rfl rfl ?_
    obtain ⟨x8, b9, hf⟩ := Option.bind_eq_some_iff.mp hf
    refine GX19_114 b9 dX19_settle_164 rfl ?_
    refine w_if_ge 174 dX19_settle_167 (by decide) (fun c10 => ?_) (fun c10 => ?_)
    · replace hf := (if_pos (show 0 ≤ x8 from c10)).symm.trans hf
      refine w_iconst dX19_settle_174 (v := 0) (by decide) ?_
      exact (pX19_settle_b175 hd hk39 hf).to ⟨rfl, rfl, rfl, rfl, trivial⟩
    · replace hf := (if_neg (show ¬ (0 ≤ x8) from c10)).symm.trans hf
      refine w_iconst dX19_settle_170 (v := 1) (by decide) ?_
      refine w_goto 175 dX19_settle_171 (by decide) ?_
      exact (pX19_settle_b175 hd hk39 hf).to ⟨rfl, rfl, rfl, rfl, trivial⟩
def fX19_settle_b138 (N : Nat) (k39 : Nat → Nat → Int64 → Int64 → Int32 → eH → Option (Unit × eH)) (l0 : Nat) (l1 : Nat) (l2 : Int64) (l4 : Int64) (l6 : Int32) (l8 : Int64) (s0 : Nat) (s1 : Int32) (s2 : Int64) (h : eH) : Option (Unit × eH) :=
  fX19_settle_b139 N k39 l0 l1 l2 l4 l6 l8 s0 s1 s2 (0 : Int64) h
theorem pX19_settle_b138 {w : eW} {d : Nat} (hd : 5 ≤ d + 1) {N : Nat} {k39 : Nat → Nat → Int64 → Int64 → Int32 → eH → Option (Unit × eH)} (hk39 : ∀ l0 l1 l2 l4 l6 h q, k39 l0 l1 l2 l4 l6 h = some q → wp w (d + 1) YX19_settle 39 [some (.ref l0), some (.ref l1), some (.long l2), none, some (.long l4), none, some (.int l6), none, none, none] [] h (e_is (e_rn c_V q))) {l0 : Nat} {l1 : Nat} {l2 : Int64} {l4 : Int64} {l6 : Int32} {l8 : Int64} {s0 : Nat} {s1 : Int32} {s2 : Int64} {h : eH} {q} (hf : fX19_settle_b138 N k39 l0 l1 l2 l4 l6 l8 s0 s1 s2 h = some q) : wp w (d + 1) YX19_settle 138 [some (.ref l0), some (.ref l1), some (.long l2), none, some (.long l4), none, some (.int l6), none, some (.long l8), none] [.long s2, .int s1, .ref s0] h (e_is (e_rn c_V q)) := by
  unfold fX19_settle_b138 at hf
  refine w_lconst dX19_settle_138 (v := 0) (by decide) ?_
  exact (pX19_settle_b139 hd hk39 hf).to ⟨rfl, rfl, rfl, rfl, rfl, rfl, trivial⟩
def fX19_settle_b104 (N : Nat) (k39 : Nat → Nat → Int64 → Int64 → Int32 → eH → Option (Unit × eH)) (l0 : Nat) (l1 : Nat) (l2 : Int64) (l4 : Int64) (l6 : Int32) (l7 : Int32) (s0 : Int64) (h : eH) : Option (Unit × eH) :=
  (g_A 18 h l0 0).bind fun a1 =>
  (g_A 6 h a1 2).bind fun a3 =>
  (g_J 18 h l0 6).bind fun x5 =>
  (g_I 18 h l0 5).bind fun x7 =>
  if x7 = 0 then
    fX19_settle_b138 N k39 l0 l1 l2 l4 l6 s0 a3 l6 x5 h
  else
    if l7 = 0 then
      fX19_settle_b138 N k39 l0 l1 l2 l4 l6 s0 a3 l6 x5 h
    else
      (g_J 18 h l0 9).bind fun x11 =>
      fX19_settle_b139 N k39 l0 l1 l2 l4 l6 s0 a3 l6 x5 x11 h
theorem pX19_settle_b104 {w : eW} {d : Nat} (hd : 5 ≤ d + 1) {N : Nat} {k39 : Nat → Nat → Int64 → Int64 → Int32 → eH → Option (Unit × eH)} (hk39 : ∀ l0 l1 l2 l4 l6 h q, k39 l0 l1 l2 l4 l6 h = some q → wp w (d + 1) YX19_settle 39 [some (.ref l0), some (.ref l1), some (.long l2), none, some (.long l4), none, some (.int l6), none, none, none] [] h (e_is (e_rn c_V q))) {l0 : Nat} {l1 : Nat} {l2 : Int64} {l4 : Int64} {l6 : Int32} {l7 : Int32} {s0 : Int64} {h : eH} {q} (hf : fX19_settle_b104 N k39 l0 l1 l2 l4 l6 l7 s0 h = some q) : wp w (d + 1) YX19_settle 104 [some (.ref l0), some (.ref l1), some (.long l2), none, some (.long l4), none, some (.int l6), some (.int l7), none, none] [.long s0] h (e_is (e_rn c_V q)) := by
  unfold fX19_settle_b104 at hf
  refine w_lstore dX19_settle_104 (by decide) (ls' := [some (.ref l0), some (.ref l1), some (.long l2), none, some (.long l4), none, some (.int l6), some (.int l7), some (.long s0), none]) rfl ?_
  refine w_aload_n dX19_settle_106 rfl rfl ?_
  obtain ⟨a1, b2, hf⟩ := Option.bind_eq_some_iff.mp hf
  refine GX19_18 b2 dX19_settle_107 rfl ?_
  obtain ⟨a3, b4, hf⟩ := Option.bind_eq_some_iff.mp hf
  refine GX19_173 b4 dX19_settle_110 rfl ?_
  refine w_iload dX19_settle_113 rfl ?_
  refine w_aload_n dX19_settle_115 rfl rfl ?_
  obtain ⟨x5, b6, hf⟩ := Option.bind_eq_some_iff.mp hf
  refine GX19_37 b6 dX19_settle_116 rfl ?_
  refine w_aload_n dX19_settle_119 rfl rfl ?_
  obtain ⟨x7, b8, hf⟩ := Option.bind_eq_some_iff.mp hf
  refine GX19_34 b8 dX19_settle_120 rfl ?_
  refine w_if_eq 138 dX19_settle_123 (by decide) (fun c9 => ?_) (fun c9 => ?_)
  · replace hf := (if_pos (show x7 = 0 from c9)).symm.trans hf
    exact (pX19_settle_b138 hd hk39 hf).to ⟨rfl, rfl, rfl, rfl, rfl, rfl, trivial⟩
  · replace hf := (if_neg (show ¬ (x7 = 0) from c9)).symm.trans hf
    refine w_iload dX19_settle_126 rfl ?_
    refine w_if_eq 138 dX19_settle_128 (by decide) (fun c10 => ?_) (fun c10 => ?_)
    · replace hf := (if_pos (show l7 = 0 from c10)).symm.trans hf
      exact (pX19_settle_b138 hd hk39 hf).to ⟨rfl, rfl, rfl, rfl, rfl, rfl, trivial⟩
    · replace hf := (if_neg (show ¬ (l7 = 0) from c10)).symm.trans hf
      refine w_aload_n dX19_settle_131 rfl rfl ?_
      obtain ⟨x11, b12, hf⟩ := Option.bind_eq_some_iff.mp hf
      refine GX19_47 b12 dX19_settle_132 rfl ?_
      refine w_goto 139 dX19_settle_135 (by decide) ?_
      exact (pX19_settle_b139 hd hk39 hf).to ⟨rfl, rfl, rfl, rfl, rfl, rfl, trivial⟩
def fX19_settle_b79 (N : Nat) (k39 : Nat → Nat → Int64 → Int64 → Int32 → eH → Option (Unit × eH)) (l0 : Nat) (l1 : Nat) (l2 : Int64) (l4 : Int64) (l6 : Int32) (s0 : Int32) (h : eH) : Option (Unit × eH) :=
  (g_I 41 h l1 8).bind fun x1 =>
  if ¬ x1 = 0 then
    (g_I 41 h l1 8).bind fun x4 =>
    (fX19_nearest (l4 * l2) (x4).toInt64 h).bind fun q6 =>
    fX19_settle_b104 N k39 l0 l1 l2 l4 l6 s0 q6.1 q6.2
  else
    fX19_settle_b104 N k39 l0 l1 l2 l4 l6 s0 (0 : Int64) h
theorem pX19_settle_b79 {w : eW} {d : Nat} (hd : 5 ≤ d + 1) {N : Nat} {k39 : Nat → Nat → Int64 → Int64 → Int32 → eH → Option (Unit × eH)} (hk39 : ∀ l0 l1 l2 l4 l6 h q, k39 l0 l1 l2 l4 l6 h = some q → wp w (d + 1) YX19_settle 39 [some (.ref l0), some (.ref l1), some (.long l2), none, some (.long l4), none, some (.int l6), none, none, none] [] h (e_is (e_rn c_V q))) {l0 : Nat} {l1 : Nat} {l2 : Int64} {l4 : Int64} {l6 : Int32} {s0 : Int32} {h : eH} {q} (hf : fX19_settle_b79 N k39 l0 l1 l2 l4 l6 s0 h = some q) : wp w (d + 1) YX19_settle 79 [some (.ref l0), some (.ref l1), some (.long l2), none, some (.long l4), none, some (.int l6), none, none, none] [.int s0] h (e_is (e_rn c_V q)) := by
  unfold fX19_settle_b79 at hf
  refine w_istore dX19_settle_79 (by decide) (ls' := [some (.ref l0), some (.ref l1), some (.long l2), none, some (.long l4), none, some (.int l6), some (.int s0), none, none]) rfl ?_
  refine w_aload_n dX19_settle_81 rfl rfl ?_
  obtain ⟨x1, b2, hf⟩ := Option.bind_eq_some_iff.mp hf
  refine GX19_124 b2 dX19_settle_82 rfl ?_
  refine w_if_ne 92 dX19_settle_85 (by decide) (fun c3 => ?_) (fun c3 => ?_)
  · replace hf := (if_pos (show ¬ x1 = 0 from c3)).symm.trans hf
    refine w_lload dX19_settle_92 rfl ?_
    refine w_lload_n dX19_settle_94 rfl rfl ?_
    refine w_lmul dX19_settle_95 ?_
    refine w_aload_n dX19_settle_96 rfl rfl ?_
    obtain ⟨x4, b5, hf⟩ := Option.bind_eq_some_iff.mp hf
    refine GX19_124 b5 dX19_settle_97 rfl ?_
    refine w_i2l dX19_settle_100 ?_
    refine x_cnJ hf (e_stS (Yc := YX19_nearest) (av := [.long (l4 * l2), .long (x4).toInt64]) (st := []) dX19_settle_101 q3637 mX19_nearest) mX19_nearest.2.2.1 mX19_nearest.2.2.2.2.1 (Nat.le_of_ble_eq_true rfl) (Nat.le_of_ble_eq_true rfl) (fun q hq => pX19_nearest (by omega) hq) (fun q6 hf => ?_)
    exact (pX19_settle_b104 hd hk39 hf).to ⟨rfl, rfl, rfl, rfl, rfl, rfl, trivial⟩
  · replace hf := (if_neg (show ¬ (¬ x1 = 0) from (fun z => z c3))).symm.trans hf
    refine w_lconst dX19_settle_88 (v := 0) (by decide) ?_
    refine w_goto 104 dX19_settle_89 (by decide) ?_
    exact (pX19_settle_b104 hd hk39 hf).to ⟨rfl, rfl, rfl, rfl, rfl, rfl, trivial⟩
def fX19_settle_b78 (N : Nat) (k39 : Nat → Nat → Int64 → Int64 → Int32 → eH → Option (Unit × eH)) (l0 : Nat) (l1 : Nat) (l2 : Int64) (l4 : Int64) (l6 : Int32) (h : eH) : Option (Unit × eH) :=
  fX19_settle_b79 N k39 l0 l1 l2 l4 l6 (0 : Int32) h
theorem pX19_settle_b78 {w : eW} {d : Nat} (hd : 5 ≤ d + 1) {N : Nat} {k39 : Nat → Nat → Int64 → Int64 → Int32 → eH → Option (Unit × eH)} (hk39 : ∀ l0 l1 l2 l4 l6 h q, k39 l0 l1 l2 l4 l6 h = some q → wp w (d + 1) YX19_settle 39 [some (.ref l0), some (.ref l1), some (.long l2), none, some (.long l4), none, some (.int l6), none, none, none] [] h (e_is (e_rn c_V q))) {l0 : Nat} {l1 : Nat} {l2 : Int64} {l4 : Int64} {l6 : Int32} {h : eH} {q} (hf : fX19_settle_b78 N k39 l0 l1 l2 l4 l6 h = some q) : wp w (d + 1) YX19_settle 78 [some (.ref l0), some (.ref l1), some (.long l2), none, some (.long l4), none, some (.int l6), none, none, none] [] h (e_is (e_rn c_V q)) := by
  unfold fX19_settle_b78 at hf
  refine w_iconst dX19_settle_78 (v := 0) (by decide) ?_
  exact (pX19_settle_b79 hd hk39 hf).to ⟨rfl, rfl, rfl, rfl, rfl, trivial⟩
def fX19_settle_b39 (N : Nat) : Nat → Nat → Nat → Int64 → Int64 → Int32 → eH → Option (Unit × eH)
  | 0, _, _, _, _, _, _ => none
  | n + 1, l0, l1, l2, l4, l6, h =>
    (g_I 41 h l1 1).bind fun x1 =>
    if x1 ≤ l6 then
      some ((), h)
    else
      (g_A 18 h l0 0).bind fun a4 =>
      (k_ok 6 h a4).bind fun _ =>
      (fX7_kind a4 l6 h).bind fun q7 =>
      if q7.1 = (2 : Int32) then
        fX19_settle_b78 N (fX19_settle_b39 N n) l0 l1 l2 l4 l6 q7.2
      else
        (g_A 18 q7.2 l0 0).bind fun a9 =>
        (k_ok 6 q7.2 a9).bind fun _ =>
        (fX7_kind a9 l6 q7.2).bind fun q12 =>
        if q12.1 = (3 : Int32) then
          fX19_settle_b78 N (fX19_settle_b39 N n) l0 l1 l2 l4 l6 q12.2
        else
          fX19_settle_b79 N (fX19_settle_b39 N n) l0 l1 l2 l4 l6 (1 : Int32) q12.2
theorem pX19_settle_b39 {w : eW} {d : Nat} (hd : 5 ≤ d + 1) {N : Nat} : ∀ (n : Nat) l0 l1 l2 l4 l6 h q, fX19_settle_b39 N n l0 l1 l2 l4 l6 h = some q → wp w (d + 1) YX19_settle 39 [some (.ref l0), some (.ref l1), some (.long l2), none, some (.long l4), none, some (.int l6), none, none, none] [] h (e_is (e_rn c_V q)) := by
  intro n
  induction n with
  | zero => intro l0 l1 l2 l4 l6 h q hf; simp [fX19_settle_b39] at hf
  | succ n ih =>
    intro l0 l1 l2 l4 l6 h q hf
    rw [fX19_settle_b39] at hf
    refine w_iload dX19_settle_39 rfl ?_
    refine w_aload_n dX19_settle_41 rfl rfl ?_
    obtain ⟨x1, b2, hf⟩ := Option.bind_eq_some_iff.mp hf
    refine GX19_147 b2 dX19_settle_42 rfl ?_
    refine w_icmp_ge 198 dX19_settle_45 (by decide) (fun c3 => ?_) (fun c3 => ?_)
    · replace hf := (if_pos (show x1 ≤ l6 from c3)).symm.trans hf
      cases hf
      exact w_vret dX19_settle_198 rfl rfl
    · replace hf := (if_neg (show ¬ (x1 ≤ l6) from c3)).symm.trans hf
      refine w_aload_n dX19_settle_48 rfl rfl ?_
      obtain ⟨a4, b5, hf⟩ := Option.bind_eq_some_iff.mp hf
      refine GX19_18 b5 dX19_settle_49 rfl ?_
      refine w_iload dX19_settle_52 rfl ?_
      obtain ⟨_, b6, hf⟩ := Option.bind_eq_some_iff.mp hf
      refine x_cnI hf (e_stV (Yc := YX7_kind) (ci := 6) (av := [.int l6]) (st := []) dX19_settle_54 q3583 mX7_kind rfl (k_ok_some b6).1 (k_ok_some b6).2) mX7_kind.2.2.1 mX7_kind.2.2.2.2.1 (Nat.le_of_ble_eq_true rfl) (Nat.le_of_ble_eq_true rfl) (fun q hq => pX7_kind (by omega) hq) (fun q7 hf => ?_)
      refine w_iconst dX19_settle_57 (v := 2) (by decide) ?_
      refine w_icmp_eq 78 dX19_settle_58 (by decide) (fun c8 => ?_) (fun c8 => ?_)
      · replace hf := (if_pos (show q7.1 = (2 : Int32) from c8)).symm.trans hf
        exact (pX19_settle_b78 hd ih hf).to ⟨rfl, rfl, rfl, rfl, rfl, trivial⟩
      · replace hf := (if_neg (show ¬ (q7.1 = (2 : Int32)) from c8)).symm.trans hf
        refine w_aload_n dX19_settle_61 rfl rfl ?_
        obtain ⟨a9, b10, hf⟩ := Option.bind_eq_some_iff.mp hf
        refine GX19_18 b10 dX19_settle_62 rfl ?_
        refine w_iload dX19_settle_65 rfl ?_
        obtain ⟨_, b11, hf⟩ := Option.bind_eq_some_iff.mp hf
        refine x_cnI hf (e_stV (Yc := YX7_kind) (ci := 6) (av := [.int l6]) (st := []) dX19_settle_67 q3583 mX7_kind rfl (k_ok_some b11).1 (k_ok_some b11).2) mX7_kind.2.2.1 mX7_kind.2.2.2.2.1 (Nat.le_of_ble_eq_true rfl) (Nat.le_of_ble_eq_true rfl) (fun q hq => pX7_kind (by omega) hq) (fun q12 hf => ?_)
        refine w_iconst dX19_settle_70 (v := 3) (by decide) ?_
        refine w_icmp_eq 78 dX19_settle_71 (by decide) (fun c13 => ?_) (fun c13 => ?_)
        · replace hf := (if_pos (show q12.1 = (3 : Int32) from c13)).symm.trans hf
          exact (pX19_settle_b78 hd ih hf).to ⟨rfl, rfl, rfl, rfl, rfl, trivial⟩
        · replace hf := (if_neg (show ¬ (q12.1 = (3 : Int32)) from c13)).symm.trans hf
          refine w_iconst dX19_settle_74 (v := 1) (by decide) ?_
          refine w_goto 79 dX19_settle_75 (by decide) ?_
          exact (pX19_settle_b79 hd ih hf).to ⟨rfl, rfl, rfl, rfl, rfl, trivial⟩
def fX19_settle_b29 (N : Nat) (l0 : Nat) (l1 : Nat) (s0 : Int64) (h : eH) : Option (Unit × eH) :=
  (g_I 41 h l1 0).bind fun x1 =>
  fX19_settle_b39 N N l0 l1 s0 (0 : Int64) x1 h
theorem pX19_settle_b29 {w : eW} {d : Nat} (hd : 5 ≤ d + 1) {N : Nat} {l0 : Nat} {l1 : Nat} {s0 : Int64} {h : eH} {q} (hf : fX19_settle_b29 N l0 l1 s0 h = some q) : wp w (d + 1) YX19_settle 29 [some (.ref l0), some (.ref l1), none, none, none, none, none, none, none, none] [.long s0] h (e_is (e_rn c_V q)) := by
  unfold fX19_settle_b29 at hf
  refine w_lstore_n dX19_settle_29 rfl (by decide) (ls' := [some (.ref l0), some (.ref l1), some (.long s0), none, none, none, none, none, none, none]) rfl ?_
  refine w_lconst dX19_settle_30 (v := 0) (by decide) ?_
  refine w_lstore dX19_settle_31 (by decide) (ls' := [some (.ref l0), some (.ref l1), some (.long s0), none, some (.long (0 : Int64)), none, none, none, none, none]) rfl ?_
  refine w_aload_n dX19_settle_33 rfl rfl ?_
  obtain ⟨x1, b2, hf⟩ := Option.bind_eq_some_iff.mp hf
  refine GX19_150 b2 dX19_settle_34 rfl ?_
  refine w_istore dX19_settle_37 (by decide) (ls' := [some (.ref l0), some (.ref l1), some (.long s0), none, some (.long (0 : Int64)), none, some (.int x1), none, none, none]) rfl ?_
  exact (pX19_settle_b39 hd N _ _ _ _ _ _ _ hf).to ⟨rfl, rfl, rfl, rfl, rfl, trivial⟩
def fX19_settle (N : Nat) (this : Nat) (p0 : Nat) (h : eH) : Option (Unit × eH) :=
  (g_I 41 h p0 2).bind fun x1 =>
  (k_ok 18 h this).bind fun _ =>
  (fX19_clear N this x1 h).bind fun q4 =>
  (g_I 41 q4.2 p0 10).bind fun x5 =>
  if x5 ≤ 0 then
    (g_I 41 q4.2 p0 6).bind fun x8 =>
    fX19_settle_b29 N this p0 (x8).toInt64 q4.2
  else
    (g_I 41 q4.2 p0 8).bind fun x10 =>
    fX19_settle_b29 N this p0 ((-x10)).toInt64 q4.2
theorem pX19_settle {w : eW} {d : Nat} (hd : 5 ≤ d) {N : Nat} {this : Nat} {p0 : Nat} {h : eH} {q} (hf : fX19_settle N this p0 h = some q) : wm w d YX19_settle [.ref this, .ref p0] h (e_is (e_rn c_V q)) := by
  obtain ⟨d, rfl⟩ : ∃ e, d = e + 1 := ⟨d - 1, by omega⟩
  show wp w (d + 1) YX19_settle 0 [some (.ref this), some (.ref p0), none, none, none, none, none, none, none, none] [] h _
  unfold fX19_settle at hf
  refine w_aload_n dX19_settle_0 rfl rfl ?_
  refine w_aload_n dX19_settle_1 rfl rfl ?_
  obtain ⟨x1, b2, hf⟩ := Option.bind_eq_some_iff.mp hf
  refine GX19_139 b2 dX19_settle_2 rfl ?_
  obtain ⟨_, b3, hf⟩ := Option.bind_eq_some_iff.mp hf
  refine x_cnV hf (e_stV (Yc := YX19_clear) (ci := 18) (av := [.int x1]) (st := []) dX19_settle_5 q3575 mX19_clear rfl (k_ok_some b3).1 (k_ok_some b3).2) mX19_clear.2.2.1 mX19_clear.2.2.2.2.1 (Nat.le_of_ble_eq_true rfl) (Nat.le_of_ble_eq_true rfl) (fun q hq => pX19_clear (by omega) hq) (fun q4 hf => ?_)
  refine w_aload_n dX19_settle_8 rfl rfl ?_
  obtain ⟨x5, b6, hf⟩ := Option.bind_eq_some_iff.mp hf
  refine GX19_127 b6 dX19_settle_9 rfl ?_
  refine w_if_le 24 dX19_settle_12 (by decide) (fun c7 => ?_) (fun c7 => ?_)
  · replace hf := (if_pos (show x5 ≤ 0 from c7)).symm.trans hf
    refine w_aload_n dX19_settle_24 rfl rfl ?_
    obtain ⟨x8, b9, hf⟩ := Option.bind_eq_some_iff.mp hf
    refine GX19_114 b9 dX19_settle_25 rfl ?_
    refine w_i2l dX19_settle_28 ?_
    exact (pX19_settle_b29 hd hf).to ⟨rfl, rfl, trivial⟩
  · replace hf := (if_neg (show ¬ (x5 ≤ 0) from c7)).symm.trans hf
    refine w_aload_n dX19_settle_15 rfl rfl ?_
    obtain ⟨x10, b11, hf⟩ := Option.bind_eq_some_iff.mp hf
    refine GX19_124 b11 dX19_settle_16 rfl ?_
    refine w_ineg dX19_settle_19 ?_
    refine w_i2l dX19_settle_20 ?_
    refine w_goto 29 dX19_settle_21 (by decide) ?_
    exact (pX19_settle_b29 hd hf).to ⟨rfl, rfl, trivial⟩
abbrev cX3_pack : ByteArray := prog_26_method_18_code
def yX3_pack : MethodName := ⟨RX3, "pack", "(LTypeHouse$Lists;IZII)I"⟩
def YX3_pack : eY := (yX3_pack, cX3_pack, 10, (Option.some FieldType.int), [])
theorem mX3_pack : e_mv YX3_pack RX3 5 := ⟨q3488, qs145, q3489, by decide, by decide +kernel, (e_sig (by decide +kernel))⟩
theorem dX3_pack_0 : decode cX3_pack 0 = .ok (.aload_n 0, 1) := dc_42 (by decide +kernel)
theorem dX3_pack_1 : decode cX3_pack 1 = .ok (.getfield 30, 3) := dc_180 (a := 0) (b := 30) (n := 30) (by decide +kernel)
theorem dX3_pack_4 : decode cX3_pack 4 = .ok (.getfield 187, 3) := dc_180 (a := 0) (b := 187) (n := 187) (by decide +kernel)
theorem dX3_pack_7 : decode cX3_pack 7 = .ok (.istore 6, 2) := dc_54 (a := 6) (by decide +kernel)
theorem dX3_pack_9 : decode cX3_pack 9 = .ok (.iconst 0, 1) := dc_3 (by decide +kernel)
theorem dX3_pack_10 : decode cX3_pack 10 = .ok (.istore 7, 2) := dc_54 (a := 7) (by decide +kernel)
theorem dX3_pack_12 : decode cX3_pack 12 = .ok (.iconst 0, 1) := dc_3 (by decide +kernel)
theorem dX3_pack_13 : decode cX3_pack 13 = .ok (.istore 8, 2) := dc_54 (a := 8) (by decide +kernel)
theorem dX3_pack_15 : decode cX3_pack 15 = .ok (.iload_n 2, 1) := dc_28 (by decide +kernel)
theorem dX3_pack_16 : decode cX3_pack 16 = .ok (.istore 9, 2) := dc_54 (a := 9) (by decide +kernel)
theorem dX3_pack_18 : decode cX3_pack 18 = .ok (.iload 9, 2) := dc_21 (a := 9) (by decide +kernel)
theorem dX3_pack_20 : decode cX3_pack 20 = .ok (.aload_n 1, 1) := dc_43 (by decide +kernel)
theorem dX3_pack_21 : decode cX3_pack 21 = .ok (.getfield 210, 3) := dc_180 (a := 0) (b := 210) (n := 210) (by decide +kernel)
theorem dX3_pack_24 : decode cX3_pack 24 = .ok (.if_icmp .ge 61, 3) := dc_162 (a := 0) (b := 61) (v := 61) (by decide +kernel)
theorem dX3_pack_27 : decode cX3_pack 27 = .ok (.iload 8, 2) := dc_21 (a := 8) (by decide +kernel)
theorem dX3_pack_29 : decode cX3_pack 29 = .ok (.aload_n 1, 1) := dc_43 (by decide +kernel)
theorem dX3_pack_30 : decode cX3_pack 30 = .ok (.iload 9, 2) := dc_21 (a := 9) (by decide +kernel)
theorem dX3_pack_32 : decode cX3_pack 32 = .ok (.invokevirtual 359, 3) := dc_182 (a := 1) (b := 103) (n := 359) (by decide +kernel)
theorem dX3_pack_35 : decode cX3_pack 35 = .ok (.iconst 5, 1) := dc_8 (by decide +kernel)
theorem dX3_pack_36 : decode cX3_pack 36 = .ok (.if_icmp .ge 7, 3) := dc_162 (a := 0) (b := 7) (v := 7) (by decide +kernel)
theorem dX3_pack_39 : decode cX3_pack 39 = .ok (.iconst 1, 1) := dc_4 (by decide +kernel)
theorem dX3_pack_40 : decode cX3_pack 40 = .ok (.goto 4, 3) := dc_167 (a := 0) (b := 4) (v := 4) (by decide +kernel)
theorem dX3_pack_43 : decode cX3_pack 43 = .ok (.iconst 0, 1) := dc_3 (by decide +kernel)
theorem dX3_pack_44 : decode cX3_pack 44 = .ok (.iadd, 1) := dc_96 (by decide +kernel)
theorem dX3_pack_45 : decode cX3_pack 45 = .ok (.istore 8, 2) := dc_54 (a := 8) (by decide +kernel)
theorem dX3_pack_47 : decode cX3_pack 47 = .ok (.aload_n 1, 1) := dc_43 (by decide +kernel)
theorem dX3_pack_48 : decode cX3_pack 48 = .ok (.iload 9, 2) := dc_21 (a := 9) (by decide +kernel)
theorem dX3_pack_50 : decode cX3_pack 50 = .ok (.invokevirtual 359, 3) := dc_182 (a := 1) (b := 103) (n := 359) (by decide +kernel)
theorem dX3_pack_53 : decode cX3_pack 53 = .ok (.iconst 4, 1) := dc_7 (by decide +kernel)
theorem dX3_pack_54 : decode cX3_pack 54 = .ok (.if_icmp .ne 25, 3) := dc_160 (a := 0) (b := 25) (v := 25) (by decide +kernel)
theorem dX3_pack_57 : decode cX3_pack 57 = .ok (.iload 7, 2) := dc_21 (a := 7) (by decide +kernel)
theorem dX3_pack_59 : decode cX3_pack 59 = .ok (.aload_n 0, 1) := dc_42 (by decide +kernel)
theorem dX3_pack_60 : decode cX3_pack 60 = .ok (.getfield 36, 3) := dc_180 (a := 0) (b := 36) (n := 36) (by decide +kernel)
theorem dX3_pack_63 : decode cX3_pack 63 = .ok (.aload_n 1, 1) := dc_43 (by decide +kernel)
theorem dX3_pack_64 : decode cX3_pack 64 = .ok (.iload 9, 2) := dc_21 (a := 9) (by decide +kernel)
theorem dX3_pack_66 : decode cX3_pack 66 = .ok (.iconst 0, 1) := dc_3 (by decide +kernel)
theorem dX3_pack_67 : decode cX3_pack 67 = .ok (.invokevirtual 363, 3) := dc_182 (a := 1) (b := 107) (n := 363) (by decide +kernel)
theorem dX3_pack_70 : decode cX3_pack 70 = .ok (.aaload, 1) := dc_50 (by decide +kernel)
theorem dX3_pack_71 : decode cX3_pack 71 = .ok (.getfield 367, 3) := dc_180 (a := 1) (b := 111) (n := 367) (by decide +kernel)
theorem dX3_pack_74 : decode cX3_pack 74 = .ok (.invokestatic 370, 3) := dc_184 (a := 1) (b := 114) (n := 370) (by decide +kernel)
theorem dX3_pack_77 : decode cX3_pack 77 = .ok (.istore 7, 2) := dc_54 (a := 7) (by decide +kernel)
theorem dX3_pack_79 : decode cX3_pack 79 = .ok (.iinc 9 1, 3) := dc_132 (a := 9) (b := 1) (v := 1) (by decide +kernel)
theorem dX3_pack_82 : decode cX3_pack 82 = .ok (.goto (-64), 3) := dc_167 (a := 255) (b := 192) (v := -64) (by decide +kernel)
theorem dX3_pack_85 : decode cX3_pack 85 = .ok (.aload_n 0, 1) := dc_42 (by decide +kernel)
theorem dX3_pack_86 : decode cX3_pack 86 = .ok (.getfield 14, 3) := dc_180 (a := 0) (b := 14) (n := 14) (by decide +kernel)
theorem dX3_pack_89 : decode cX3_pack 89 = .ok (.aload_n 0, 1) := dc_42 (by decide +kernel)
theorem dX3_pack_90 : decode cX3_pack 90 = .ok (.getfield 191, 3) := dc_180 (a := 0) (b := 191) (n := 191) (by decide +kernel)
theorem dX3_pack_93 : decode cX3_pack 93 = .ok (.sipush 3000, 3) := dc_17 (a := 11) (b := 184) (v := 3000) (by decide +kernel)
theorem dX3_pack_96 : decode cX3_pack 96 = .ok (.if_icmp .ge 30, 3) := dc_162 (a := 0) (b := 30) (v := 30) (by decide +kernel)
theorem dX3_pack_99 : decode cX3_pack 99 = .ok (.aload_n 0, 1) := dc_42 (by decide +kernel)
theorem dX3_pack_100 : decode cX3_pack 100 = .ok (.getfield 30, 3) := dc_180 (a := 0) (b := 30) (n := 30) (by decide +kernel)
theorem dX3_pack_103 : decode cX3_pack 103 = .ok (.getfield 187, 3) := dc_180 (a := 0) (b := 187) (n := 187) (by decide +kernel)
theorem dX3_pack_106 : decode cX3_pack 106 = .ok (.iload 8, 2) := dc_21 (a := 8) (by decide +kernel)
theorem dX3_pack_108 : decode cX3_pack 108 = .ok (.iadd, 1) := dc_96 (by decide +kernel)
theorem dX3_pack_109 : decode cX3_pack 109 = .ok (.sipush 20000, 3) := dc_17 (a := 78) (b := 32) (v := 20000) (by decide +kernel)
theorem dX3_pack_112 : decode cX3_pack 112 = .ok (.if_icmp .gt 14, 3) := dc_163 (a := 0) (b := 14) (v := 14) (by decide +kernel)
theorem dX3_pack_115 : decode cX3_pack 115 = .ok (.iload 7, 2) := dc_21 (a := 7) (by decide +kernel)
theorem dX3_pack_117 : decode cX3_pack 117 = .ok (.bipush 10, 2) := dc_16 (a := 10) (v := 10) (by decide +kernel)
theorem dX3_pack_119 : decode cX3_pack 119 = .ok (.if_icmp .ge 7, 3) := dc_162 (a := 0) (b := 7) (v := 7) (by decide +kernel)
theorem dX3_pack_122 : decode cX3_pack 122 = .ok (.iconst 1, 1) := dc_4 (by decide +kernel)
theorem dX3_pack_123 : decode cX3_pack 123 = .ok (.goto 4, 3) := dc_167 (a := 0) (b := 4) (v := 4) (by decide +kernel)
theorem dX3_pack_126 : decode cX3_pack 126 = .ok (.iconst 0, 1) := dc_3 (by decide +kernel)
theorem dX3_pack_127 : decode cX3_pack 127 = .ok (.iconst 2, 1) := dc_5 (by decide +kernel)
theorem dX3_pack_128 : decode cX3_pack 128 = .ok (.invokevirtual 289, 3) := dc_182 (a := 1) (b := 33) (n := 289) (by decide +kernel)
theorem dX3_pack_131 : decode cX3_pack 131 = .ok (.iload_n 2, 1) := dc_28 (by decide +kernel)
theorem dX3_pack_132 : decode cX3_pack 132 = .ok (.istore 9, 2) := dc_54 (a := 9) (by decide +kernel)
theorem dX3_pack_134 : decode cX3_pack 134 = .ok (.iload 9, 2) := dc_21 (a := 9) (by decide +kernel)
theorem dX3_pack_136 : decode cX3_pack 136 = .ok (.aload_n 1, 1) := dc_43 (by decide +kernel)
theorem dX3_pack_137 : decode cX3_pack 137 = .ok (.getfield 210, 3) := dc_180 (a := 0) (b := 210) (n := 210) (by decide +kernel)
theorem dX3_pack_140 : decode cX3_pack 140 = .ok (.if_icmp .ge 67, 3) := dc_162 (a := 0) (b := 67) (v := 67) (by decide +kernel)
theorem dX3_pack_143 : decode cX3_pack 143 = .ok (.aload_n 1, 1) := dc_43 (by decide +kernel)
theorem dX3_pack_144 : decode cX3_pack 144 = .ok (.iload 9, 2) := dc_21 (a := 9) (by decide +kernel)
theorem dX3_pack_146 : decode cX3_pack 146 = .ok (.invokevirtual 359, 3) := dc_182 (a := 1) (b := 103) (n := 359) (by decide +kernel)
theorem dX3_pack_149 : decode cX3_pack 149 = .ok (.iconst 5, 1) := dc_8 (by decide +kernel)
theorem dX3_pack_150 : decode cX3_pack 150 = .ok (.if_icmp .ge 51, 3) := dc_162 (a := 0) (b := 51) (v := 51) (by decide +kernel)
theorem dX3_pack_153 : decode cX3_pack 153 = .ok (.aload_n 0, 1) := dc_42 (by decide +kernel)
theorem dX3_pack_154 : decode cX3_pack 154 = .ok (.getfield 30, 3) := dc_180 (a := 0) (b := 30) (n := 30) (by decide +kernel)
theorem dX3_pack_157 : decode cX3_pack 157 = .ok (.aload_n 1, 1) := dc_43 (by decide +kernel)
theorem dX3_pack_158 : decode cX3_pack 158 = .ok (.iload 9, 2) := dc_21 (a := 9) (by decide +kernel)
theorem dX3_pack_160 : decode cX3_pack 160 = .ok (.invokevirtual 359, 3) := dc_182 (a := 1) (b := 103) (n := 359) (by decide +kernel)
theorem dX3_pack_163 : decode cX3_pack 163 = .ok (.aload_n 1, 1) := dc_43 (by decide +kernel)
theorem dX3_pack_164 : decode cX3_pack 164 = .ok (.iload 9, 2) := dc_21 (a := 9) (by decide +kernel)
theorem dX3_pack_166 : decode cX3_pack 166 = .ok (.iconst 0, 1) := dc_3 (by decide +kernel)
theorem dX3_pack_167 : decode cX3_pack 167 = .ok (.invokevirtual 363, 3) := dc_182 (a := 1) (b := 107) (n := 363) (by decide +kernel)
theorem dX3_pack_170 : decode cX3_pack 170 = .ok (.aload_n 1, 1) := dc_43 (by decide +kernel)
theorem dX3_pack_171 : decode cX3_pack 171 = .ok (.iload 9, 2) := dc_21 (a := 9) (by decide +kernel)
theorem dX3_pack_173 : decode cX3_pack 173 = .ok (.iconst 1, 1) := dc_4 (by decide +kernel)
theorem dX3_pack_174 : decode cX3_pack 174 = .ok (.invokevirtual 363, 3) := dc_182 (a := 1) (b := 107) (n := 363) (by decide +kernel)
theorem dX3_pack_177 : decode cX3_pack 177 = .ok (.aload_n 1, 1) := dc_43 (by decide +kernel)
theorem dX3_pack_178 : decode cX3_pack 178 = .ok (.iload 9, 2) := dc_21 (a := 9) (by decide +kernel)
theorem dX3_pack_180 : decode cX3_pack 180 = .ok (.iconst 2, 1) := dc_5 (by decide +kernel)
theorem dX3_pack_181 : decode cX3_pack 181 = .ok (.invokevirtual 363, 3) := dc_182 (a := 1) (b := 107) (n := 363) (by decide +kernel)
theorem dX3_pack_184 : decode cX3_pack 184 = .ok (.aload_n 1, 1) := dc_43 (by decide +kernel)
theorem dX3_pack_185 : decode cX3_pack 185 = .ok (.iload 9, 2) := dc_21 (a := 9) (by decide +kernel)
theorem dX3_pack_187 : decode cX3_pack 187 = .ok (.iconst 3, 1) := dc_6 (by decide +kernel)
theorem dX3_pack_188 : decode cX3_pack 188 = .ok (.invokevirtual 363, 3) := dc_182 (a := 1) (b := 107) (n := 363) (by decide +kernel)
theorem dX3_pack_191 : decode cX3_pack 191 = .ok (.aload_n 1, 1) := dc_43 (by decide +kernel)
theorem dX3_pack_192 : decode cX3_pack 192 = .ok (.iload 9, 2) := dc_21 (a := 9) (by decide +kernel)
theorem dX3_pack_194 : decode cX3_pack 194 = .ok (.iconst 4, 1) := dc_7 (by decide +kernel)
theorem dX3_pack_195 : decode cX3_pack 195 = .ok (.invokevirtual 363, 3) := dc_182 (a := 1) (b := 107) (n := 363) (by decide +kernel)
theorem dX3_pack_198 : decode cX3_pack 198 = .ok (.invokevirtual 372, 3) := dc_182 (a := 1) (b := 116) (n := 372) (by decide +kernel)
theorem dX3_pack_201 : decode cX3_pack 201 = .ok (.iinc 9 1, 3) := dc_132 (a := 9) (b := 1) (v := 1) (by decide +kernel)
theorem dX3_pack_204 : decode cX3_pack 204 = .ok (.goto (-70), 3) := dc_167 (a := 255) (b := 186) (v := -70) (by decide +kernel)
theorem dX3_pack_207 : decode cX3_pack 207 = .ok (.aload_n 0, 1) := dc_42 (by decide +kernel)
theorem dX3_pack_208 : decode cX3_pack 208 = .ok (.getfield 36, 3) := dc_180 (a := 0) (b := 36) (n := 36) (by decide +kernel)
theorem dX3_pack_211 : decode cX3_pack 211 = .ok (.aload_n 0, 1) := dc_42 (by decide +kernel)
theorem dX3_pack_212 : decode cX3_pack 212 = .ok (.getfield 191, 3) := dc_180 (a := 0) (b := 191) (n := 191) (by decide +kernel)
theorem dX3_pack_215 : decode cX3_pack 215 = .ok (.aaload, 1) := dc_50 (by decide +kernel)
theorem dX3_pack_216 : decode cX3_pack 216 = .ok (.ifnonnull 19, 3) := dc_199 (a := 0) (b := 19) (v := 19) (by decide +kernel)
theorem dX3_pack_219 : decode cX3_pack 219 = .ok (.aload_n 0, 1) := dc_42 (by decide +kernel)
theorem dX3_pack_220 : decode cX3_pack 220 = .ok (.getfield 36, 3) := dc_180 (a := 0) (b := 36) (n := 36) (by decide +kernel)
theorem dX3_pack_223 : decode cX3_pack 223 = .ok (.aload_n 0, 1) := dc_42 (by decide +kernel)
theorem dX3_pack_224 : decode cX3_pack 224 = .ok (.getfield 191, 3) := dc_180 (a := 0) (b := 191) (n := 191) (by decide +kernel)
theorem dX3_pack_227 : decode cX3_pack 227 = .ok (.new 34, 3) := dc_187 (a := 0) (b := 34) (n := 34) (by decide +kernel)
theorem dX3_pack_230 : decode cX3_pack 230 = .ok (.dup, 1) := dc_89 (by decide +kernel)
theorem dX3_pack_231 : decode cX3_pack 231 = .ok (.invokespecial 373, 3) := dc_183 (a := 1) (b := 117) (n := 373) (by decide +kernel)
theorem dX3_pack_234 : decode cX3_pack 234 = .ok (.aastore, 1) := dc_83 (by decide +kernel)
theorem dX3_pack_235 : decode cX3_pack 235 = .ok (.aload_n 0, 1) := dc_42 (by decide +kernel)
theorem dX3_pack_236 : decode cX3_pack 236 = .ok (.getfield 36, 3) := dc_180 (a := 0) (b := 36) (n := 36) (by decide +kernel)
theorem dX3_pack_239 : decode cX3_pack 239 = .ok (.aload_n 0, 1) := dc_42 (by decide +kernel)
theorem dX3_pack_240 : decode cX3_pack 240 = .ok (.getfield 191, 3) := dc_180 (a := 0) (b := 191) (n := 191) (by decide +kernel)
theorem dX3_pack_243 : decode cX3_pack 243 = .ok (.aaload, 1) := dc_50 (by decide +kernel)
theorem dX3_pack_244 : decode cX3_pack 244 = .ok (.astore 9, 2) := dc_58 (a := 9) (by decide +kernel)
theorem dX3_pack_246 : decode cX3_pack 246 = .ok (.aload 9, 2) := dc_25 (a := 9) (by decide +kernel)
theorem dX3_pack_248 : decode cX3_pack 248 = .ok (.iload 6, 2) := dc_21 (a := 6) (by decide +kernel)
theorem dX3_pack_250 : decode cX3_pack 250 = .ok (.putfield 374, 3) := dc_181 (a := 1) (b := 118) (n := 374) (by decide +kernel)
theorem dX3_pack_253 : decode cX3_pack 253 = .ok (.aload 9, 2) := dc_25 (a := 9) (by decide +kernel)
theorem dX3_pack_255 : decode cX3_pack 255 = .ok (.aload_n 0, 1) := dc_42 (by decide +kernel)
theorem dX3_pack_256 : decode cX3_pack 256 = .ok (.getfield 30, 3) := dc_180 (a := 0) (b := 30) (n := 30) (by decide +kernel)
theorem dX3_pack_259 : decode cX3_pack 259 = .ok (.getfield 187, 3) := dc_180 (a := 0) (b := 187) (n := 187) (by decide +kernel)
theorem dX3_pack_262 : decode cX3_pack 262 = .ok (.putfield 377, 3) := dc_181 (a := 1) (b := 121) (n := 377) (by decide +kernel)
theorem dX3_pack_265 : decode cX3_pack 265 = .ok (.aload 9, 2) := dc_25 (a := 9) (by decide +kernel)
theorem dX3_pack_267 : decode cX3_pack 267 = .ok (.iload_n 3, 1) := dc_29 (by decide +kernel)
theorem dX3_pack_268 : decode cX3_pack 268 = .ok (.putfield 380, 3) := dc_181 (a := 1) (b := 124) (n := 380) (by decide +kernel)
theorem dX3_pack_271 : decode cX3_pack 271 = .ok (.aload_n 0, 1) := dc_42 (by decide +kernel)
theorem dX3_pack_272 : decode cX3_pack 272 = .ok (.getfield 14, 3) := dc_180 (a := 0) (b := 14) (n := 14) (by decide +kernel)
theorem dX3_pack_275 : decode cX3_pack 275 = .ok (.aload_n 0, 1) := dc_42 (by decide +kernel)
theorem dX3_pack_276 : decode cX3_pack 276 = .ok (.getfield 73, 3) := dc_180 (a := 0) (b := 73) (n := 73) (by decide +kernel)
theorem dX3_pack_279 : decode cX3_pack 279 = .ok (.aload 9, 2) := dc_25 (a := 9) (by decide +kernel)
theorem dX3_pack_281 : decode cX3_pack 281 = .ok (.iload 4, 2) := dc_21 (a := 4) (by decide +kernel)
theorem dX3_pack_283 : decode cX3_pack 283 = .ok (.iload 5, 2) := dc_21 (a := 5) (by decide +kernel)
theorem dX3_pack_285 : decode cX3_pack 285 = .ok (.ldc_w 383, 3) := dc_19 (a := 1) (b := 127) (n := 383) (by decide +kernel)
theorem dX3_pack_288 : decode cX3_pack 288 = .ok (.invokevirtual 384, 3) := dc_182 (a := 1) (b := 128) (n := 384) (by decide +kernel)
theorem dX3_pack_291 : decode cX3_pack 291 = .ok (.bipush 16, 2) := dc_16 (a := 16) (v := 16) (by decide +kernel)
theorem dX3_pack_293 : decode cX3_pack 293 = .ok (.invokevirtual 289, 3) := dc_182 (a := 1) (b := 33) (n := 289) (by decide +kernel)
theorem dX3_pack_296 : decode cX3_pack 296 = .ok (.aload_n 0, 1) := dc_42 (by decide +kernel)
theorem dX3_pack_297 : decode cX3_pack 297 = .ok (.getfield 73, 3) := dc_180 (a := 0) (b := 73) (n := 73) (by decide +kernel)
theorem dX3_pack_300 : decode cX3_pack 300 = .ok (.aload 9, 2) := dc_25 (a := 9) (by decide +kernel)
theorem dX3_pack_302 : decode cX3_pack 302 = .ok (.invokevirtual 387, 3) := dc_182 (a := 1) (b := 131) (n := 387) (by decide +kernel)
theorem dX3_pack_305 : decode cX3_pack 305 = .ok (.aload_n 0, 1) := dc_42 (by decide +kernel)
theorem dX3_pack_306 : decode cX3_pack 306 = .ok (.getfield 178, 3) := dc_180 (a := 0) (b := 178) (n := 178) (by decide +kernel)
theorem dX3_pack_309 : decode cX3_pack 309 = .ok (.iconst 2, 1) := dc_5 (by decide +kernel)
theorem dX3_pack_310 : decode cX3_pack 310 = .ok (.dup2, 1) := dc_92 (by decide +kernel)
theorem dX3_pack_311 : decode cX3_pack 311 = .ok (.iaload, 1) := dc_46 (by decide +kernel)
theorem dX3_pack_312 : decode cX3_pack 312 = .ok (.iconst 1, 1) := dc_4 (by decide +kernel)
theorem dX3_pack_313 : decode cX3_pack 313 = .ok (.iadd, 1) := dc_96 (by decide +kernel)
theorem dX3_pack_314 : decode cX3_pack 314 = .ok (.iastore, 1) := dc_79 (by decide +kernel)
theorem dX3_pack_315 : decode cX3_pack 315 = .ok (.aload_n 0, 1) := dc_42 (by decide +kernel)
theorem dX3_pack_316 : decode cX3_pack 316 = .ok (.getfield 178, 3) := dc_180 (a := 0) (b := 178) (n := 178) (by decide +kernel)
theorem dX3_pack_319 : decode cX3_pack 319 = .ok (.iconst 3, 1) := dc_6 (by decide +kernel)
theorem dX3_pack_320 : decode cX3_pack 320 = .ok (.dup2, 1) := dc_92 (by decide +kernel)
theorem dX3_pack_321 : decode cX3_pack 321 = .ok (.iaload, 1) := dc_46 (by decide +kernel)
theorem dX3_pack_322 : decode cX3_pack 322 = .ok (.iload 8, 2) := dc_21 (a := 8) (by decide +kernel)
theorem dX3_pack_324 : decode cX3_pack 324 = .ok (.iadd, 1) := dc_96 (by decide +kernel)
theorem dX3_pack_325 : decode cX3_pack 325 = .ok (.iastore, 1) := dc_79 (by decide +kernel)
theorem dX3_pack_326 : decode cX3_pack 326 = .ok (.aload_n 0, 1) := dc_42 (by decide +kernel)
theorem dX3_pack_327 : decode cX3_pack 327 = .ok (.getfield 178, 3) := dc_180 (a := 0) (b := 178) (n := 178) (by decide +kernel)
theorem dX3_pack_330 : decode cX3_pack 330 = .ok (.iconst 5, 1) := dc_8 (by decide +kernel)
theorem dX3_pack_331 : decode cX3_pack 331 = .ok (.dup2, 1) := dc_92 (by decide +kernel)
theorem dX3_pack_332 : decode cX3_pack 332 = .ok (.iaload, 1) := dc_46 (by decide +kernel)
theorem dX3_pack_333 : decode cX3_pack 333 = .ok (.aload 9, 2) := dc_25 (a := 9) (by decide +kernel)
theorem dX3_pack_335 : decode cX3_pack 335 = .ok (.getfield 391, 3) := dc_180 (a := 1) (b := 135) (n := 391) (by decide +kernel)
theorem dX3_pack_338 : decode cX3_pack 338 = .ok (.ifCond .le 7, 3) := dc_158 (a := 0) (b := 7) (v := 7) (by decide +kernel)
theorem dX3_pack_341 : decode cX3_pack 341 = .ok (.iconst 1, 1) := dc_4 (by decide +kernel)
theorem dX3_pack_342 : decode cX3_pack 342 = .ok (.goto 4, 3) := dc_167 (a := 0) (b := 4) (v := 4) (by decide +kernel)
theorem dX3_pack_345 : decode cX3_pack 345 = .ok (.iconst 0, 1) := dc_3 (by decide +kernel)
theorem dX3_pack_346 : decode cX3_pack 346 = .ok (.iadd, 1) := dc_96 (by decide +kernel)
theorem dX3_pack_347 : decode cX3_pack 347 = .ok (.iastore, 1) := dc_79 (by decide +kernel)
theorem dX3_pack_348 : decode cX3_pack 348 = .ok (.aload_n 0, 1) := dc_42 (by decide +kernel)
theorem dX3_pack_349 : decode cX3_pack 349 = .ok (.dup, 1) := dc_89 (by decide +kernel)
theorem dX3_pack_350 : decode cX3_pack 350 = .ok (.getfield 191, 3) := dc_180 (a := 0) (b := 191) (n := 191) (by decide +kernel)
theorem dX3_pack_353 : decode cX3_pack 353 = .ok (.dup_x1, 1) := dc_90 (by decide +kernel)
theorem dX3_pack_354 : decode cX3_pack 354 = .ok (.iconst 1, 1) := dc_4 (by decide +kernel)
theorem dX3_pack_355 : decode cX3_pack 355 = .ok (.iadd, 1) := dc_96 (by decide +kernel)
theorem dX3_pack_356 : decode cX3_pack 356 = .ok (.putfield 191, 3) := dc_181 (a := 0) (b := 191) (n := 191) (by decide +kernel)
theorem dX3_pack_359 : decode cX3_pack 359 = .ok (.ireturn, 1) := dc_172 (by decide +kernel)
theorem GX3_187 {w : eW} {d : Nat} {Y : eY} {pc : Nat} {ls : eL} {st : List Value} {h : eH} {Q : eO → eH → Prop} {a : Nat} {x : Int32} (hf : g_I 6 h a 3 = some x) (hd : decode Y.2.1 pc = .ok (.getfield 187, 3)) (hY : Y.1.cls = RX3) (kk : wp w d Y (pc + 3) ls (.int x :: st) h Q) : wp w d Y pc ls (.ref a :: st) h Q := x_gIN (ci := 6) (k := 3) hf hd rfl (by decide) (by rw [hY]; exact q626) kk
theorem GX3_191 {w : eW} {d : Nat} {Y : eY} {pc : Nat} {ls : eL} {st : List Value} {h : eH} {Q : eO → eH → Prop} {a : Nat} {x : Int32} (hf : g_I 2 h a 4 = some x) (hd : decode Y.2.1 pc = .ok (.getfield 191, 3)) (hY : Y.1.cls = RX3) (kk : wp w d Y (pc + 3) ls (.int x :: st) h Q) : wp w d Y pc ls (.ref a :: st) h Q := x_gI (ci := 2) (k := 4) hf hd rfl (by decide) (by rw [hY]; exact q1792) kk
theorem GX3_367 {w : eW} {d : Nat} {Y : eY} {pc : Nat} {ls : eL} {st : List Value} {h : eH} {Q : eO → eH → Prop} {a : Nat} {x : Int32} (hf : g_I 41 h a 11 = some x) (hd : decode Y.2.1 pc = .ok (.getfield 367, 3)) (hY : Y.1.cls = RX3) (kk : wp w d Y (pc + 3) ls (.int x :: st) h Q) : wp w d Y pc ls (.ref a :: st) h Q := x_gIN (ci := 41) (k := 11) hf hd rfl (by decide) (by rw [hY]; exact q3539) kk
theorem GX3_391 {w : eW} {d : Nat} {Y : eY} {pc : Nat} {ls : eL} {st : List Value} {h : eH} {Q : eO → eH → Prop} {a : Nat} {x : Int32} (hf : g_I 41 h a 10 = some x) (hd : decode Y.2.1 pc = .ok (.getfield 391, 3)) (hY : Y.1.cls = RX3) (kk : wp w d Y (pc + 3) ls (.int x :: st) h Q) : wp w d Y pc ls (.ref a :: st) h Q := x_gIN (ci := 41) (k := 10) hf hd rfl (by decide) (by rw [hY]; exact q3536) kk
theorem GX3_73 {w : eW} {d : Nat} {Y : eY} {pc : Nat} {ls : eL} {st : List Value} {h : eH} {Q : eO → eH → Prop} {a : Nat} {x : Nat} (hf : g_A 2 h a 9 = some x) (hd : decode Y.2.1 pc = .ok (.getfield 73, 3)) (hY : Y.1.cls = RX3) (kk : wp w d Y (pc + 3) ls (.ref x :: st) h Q) : wp w d Y pc ls (.ref a :: st) h Q := x_gA (ci := 2) (k := 9) hf hd rfl (by decide) (by rw [hY]; exact q1800) kk
theorem SX3_374 {w : eW} {d : Nat} {Y : eY} {pc : Nat} {ls : eL} {st : List Value} {h : eH} {Q : eO → eH → Prop} {a : Nat} {h' : eH} {x : Int32} (hf : p_V 41 h a 0 (.int x) = some h') (hd : decode Y.2.1 pc = .ok (.putfield 374, 3)) (hY : Y.1.cls = RX3) (kk : wp w d Y (pc + 3) ls st h' Q) : wp w d Y pc ls (.int x :: .ref a :: st) h Q := x_pIN (ci := 41) (k := 0) hf hd rfl (by decide) (by rw [hY]; exact q3506) rfl rfl kk
theorem SX3_377 {w : eW} {d : Nat} {Y : eY} {pc : Nat} {ls : eL} {st : List Value} {h : eH} {Q : eO → eH → Prop} {a : Nat} {h' : eH} {x : Int32} (hf : p_V 41 h a 1 (.int x) = some h') (hd : decode Y.2.1 pc = .ok (.putfield 377, 3)) (hY : Y.1.cls = RX3) (kk : wp w d Y (pc + 3) ls st h' Q) : wp w d Y pc ls (.int x :: .ref a :: st) h Q := x_pIN (ci := 41) (k := 1) hf hd rfl (by decide) (by rw [hY]; exact q3510) rfl rfl kk
theorem SX3_380 {w : eW} {d : Nat} {Y : eY} {pc : Nat} {ls : eL} {st : List Value} {h : eH} {Q : eO → eH → Prop} {a : Nat} {h' : eH} {x : Int32} (hf : p_Z 41 h a 2 x = some h') (hd : decode Y.2.1 pc = .ok (.putfield 380, 3)) (hY : Y.1.cls = RX3) (kk : wp w d Y (pc + 3) ls st h' Q) : wp w d Y pc ls (.int x :: .ref a :: st) h Q := x_pZN (ci := 41) (k := 2) hf hd rfl (by decide) (by rw [hY]; exact q3513) rfl rfl kk
def fX3_pack_b79 (N : Nat) (k18 : Nat → Nat → Int32 → Int32 → Int32 → Int32 → Int32 → Int32 → Int32 → Int32 → eH → Option ((Int32 ⊕ Nat) × eH)) (l0 : Nat) (l1 : Nat) (l2 : Int32) (l3 : Int32) (l4 : Int32) (l5 : Int32) (l6 : Int32) (l7 : Int32) (l8 : Int32) (l9 : Int32) (h : eH) : Option ((Int32 ⊕ Nat) × eH) :=
  k18 l0 l1 l2 l3 l4 l5 l6 l7 l8 (l9 + (1 : Int32)) h
theorem pX3_pack_b79 {w : eW} {d : Nat} (hd : 8 ≤ d + 1) {N : Nat} {k18 : Nat → Nat → Int32 → Int32 → Int32 → Int32 → Int32 → Int32 → Int32 → Int32 → eH → Option ((Int32 ⊕ Nat) × eH)} (hk18 : ∀ l0 l1 l2 l3 l4 l5 l6 l7 l8 l9 h q, k18 l0 l1 l2 l3 l4 l5 l6 l7 l8 l9 h = some q → wp w (d + 1) YX3_pack 18 [some (.ref l0), some (.ref l1), some (.int l2), some (.int l3), some (.int l4), some (.int l5), some (.int l6), some (.int l7), some (.int l8), some (.int l9)] [] h (e_is (e_rt c_I q))) {l0 : Nat} {l1 : Nat} {l2 : Int32} {l3 : Int32} {l4 : Int32} {l5 : Int32} {l6 : Int32} {l7 : Int32} {l8 : Int32} {l9 : Int32} {h : eH} {q} (hf : fX3_pack_b79 N k18 l0 l1 l2 l3 l4 l5 l6 l7 l8 l9 h = some q) : wp w (d + 1) YX3_pack 79 [some (.ref l0), some (.ref l1), some (.int l2), some (.int l3), some (.int l4), some (.int l5), some (.int l6), some (.int l7), some (.int l8), some (.int l9)] [] h (e_is (e_rt c_I q)) := by
  unfold fX3_pack_b79 at hf
  refine w_iinc dX3_pack_79 (v := (l9 + (1 : Int32))) rfl rfl (by decide) (ls' := [some (.ref l0), some (.ref l1), some (.int l2), some (.int l3), some (.int l4), some (.int l5), some (.int l6), some (.int l7), some (.int l8), some (.int (l9 + (1 : Int32)))]) rfl ?_
  refine w_goto 18 dX3_pack_82 (by decide) ?_
  exact (hk18 _ _ _ _ _ _ _ _ _ _ _ _ hf).to ⟨rfl, rfl, rfl, rfl, rfl, rfl, rfl, rfl, rfl, rfl, trivial⟩
def fX3_pack_b44 (N : Nat) (k18 : Nat → Nat → Int32 → Int32 → Int32 → Int32 → Int32 → Int32 → Int32 → Int32 → eH → Option ((Int32 ⊕ Nat) × eH)) (l0 : Nat) (l1 : Nat) (l2 : Int32) (l3 : Int32) (l4 : Int32) (l5 : Int32) (l6 : Int32) (l7 : Int32) (l9 : Int32) (s0 : Int32) (s1 : Int32) (h : eH) : Option ((Int32 ⊕ Nat) × eH) :=
  (k_ok 33 h l1).bind fun _ =>
  (fX34_kind l1 l9 h).bind fun q2 =>
  if ¬ q2.1 = (4 : Int32) then
    fX3_pack_b79 N k18 l0 l1 l2 l3 l4 l5 l6 l7 (s0 + s1) l9 q2.2
  else
    (g_A 2 q2.2 l0 3).bind fun a4 =>
    (k_ok 33 q2.2 l1).bind fun _ =>
    (fX34_of l1 l9 (0 : Int32) q2.2).bind fun q7 =>
    (r_A 104 q7.2 a4 q7.1).bind fun a8 =>
    (g_I 41 q7.2 a8 11).bind fun x10 =>
    fX3_pack_b79 N k18 l0 l1 l2 l3 l4 l5 l6 (m_maxI l7 x10) (s0 + s1) l9 q7.2
theorem pX3_pack_b44 {w : eW} {d : Nat} (hd : 8 ≤ d + 1) {N : Nat} {k18 : Nat → Nat → Int32 → Int32 → Int32 → Int32 → Int32 → Int32 → Int32 → Int32 → eH → Option ((Int32 ⊕ Nat) × eH)} (hk18 : ∀ l0 l1 l2 l3 l4 l5 l6 l7 l8 l9 h q, k18 l0 l1 l2 l3 l4 l5 l6 l7 l8 l9 h = some q → wp w (d + 1) YX3_pack 18 [some (.ref l0), some (.ref l1), some (.int l2), some (.int l3), some (.int l4), some (.int l5), some (.int l6), some (.int l7), some (.int l8), some (.int l9)] [] h (e_is (e_rt c_I q))) {l0 : Nat} {l1 : Nat} {l2 : Int32} {l3 : Int32} {l4 : Int32} {l5 : Int32} {l6 : Int32} {l7 : Int32} {l9 : Int32} {s0 : Int32} {s1 : Int32} {h : eH} {q} (hf : fX3_pack_b44 N k18 l0 l1 l2 l3 l4 l5 l6 l7 l9 s0 s1 h = some q) : wp w (d + 1) YX3_pack 44 [some (.ref l0), some (.ref l1), some (.int l2), some (.int l3), some (.int l4), some (.int l5), some (.int l6), some (.int l7), none, some (.int l9)] [.int s1, .int s0] h (e_is (e_rt c_I q)) := by
  unfold fX3_pack_b44 at hf
  refine w_iadd dX3_pack_44 ?_
  refine w_istore dX3_pack_45 (by decide) (ls' := [some (.ref l0), some (.ref l1), some (.int l2), some (.int l3), some (.int l4), some (.int l5), some (.int l6), some (.int l7), some (.int (s0 + s1)), some (.int l9)]) rfl ?_
  refine w_aload_n dX3_pack_47 rfl rfl ?_
  refine w_iload dX3_pack_48 rfl ?_
  obtain ⟨_, b1, hf⟩ := Option.bind_eq_some_iff.mp hf
  refine x_cnI hf (e_stV (Yc := YX34_kind) (ci := 33) (av := [.int l9]) (st := []) dX3_pack_50 q3157 mX34_kind rfl (k_ok_some b1).1 (k_ok_some b1).2) mX34_kind.2.2.1 mX34_kind.2.2.2.2.1 (Nat.le_of_ble_eq_true rfl) (Nat.le_of_ble_eq_true rfl) (fun q hq => pX34_kind (by omega) hq) (fun q2 hf => ?_)
  refine w_iconst dX3_pack_53 (v := 4) (by decide) ?_
  refine w_icmp_ne 79 dX3_pack_54 (by decide) (fun c3 => ?_) (fun c3 => ?_)
  · replace hf := (if_pos (show ¬ q2.1 = (4 : Int32) from c3)).symm.trans hf
    exact (pX3_pack_b79 hd hk18 hf).to ⟨rfl, rfl, rfl, rfl, rfl, rfl, rfl, rfl, rfl, rfl, trivial⟩
  · replace hf := (if_neg (show ¬ (¬ q2.1 = (4 : Int32)) from (fun z => z c3))).symm.trans hf
    refine w_iload dX3_pack_57 rfl ?_
    refine w_aload_n dX3_pack_59 rfl rfl ?_
    obtain ⟨a4, b5, hf⟩ := Option.bind_eq_some_iff.mp hf
    refine GX3_36 b5 dX3_pack_60 rfl ?_
    refine w_aload_n dX3_pack_63 rfl rfl ?_
    refine w_iload dX3_pack_64 rfl ?_
    refine w_iconst dX3_pack_66 (v := 0) (by decide) ?_
    obtain ⟨_, b6, hf⟩ := Option.bind_eq_some_iff.mp hf
    refine x_cnI hf (e_stV (Yc := YX34_of) (ci := 33) (av := [.int l9, .int (0 : Int32)]) (st := [.ref a4, .int l7]) dX3_pack_67 q3161 mX34_of rfl (k_ok_some b6).1 (k_ok_some b6).2) mX34_of.2.2.1 mX34_of.2.2.2.2.1 (Nat.le_of_ble_eq_true rfl) (Nat.le_of_ble_eq_true rfl) (fun q hq => pX34_of (by omega) hq) (fun q7 hf => ?_)
    obtain ⟨a8, b9, hf⟩ := Option.bind_eq_some_iff.mp hf
    refine x_rA (c := 104) (by decide) b9 dX3_pack_70 ?_
    obtain ⟨x10, b11, hf⟩ := Option.bind_eq_some_iff.mp hf
    refine GX3_367 b11 dX3_pack_71 rfl ?_
    refine x_maxI dX3_pack_74 q3216 q2912 q478 q2913 (Nat.le_of_ble_eq_true rfl) ?_
    refine w_istore dX3_pack_77 (by decide) (ls' := [some (.ref l0), some (.ref l1), some (.int l2), some (.int l3), some (.int l4), some (.int l5), some (.int l6), some (.int (m_maxI l7 x10)), some (.int (s0 + s1)), some (.int l9)]) rfl ?_
    exact (pX3_pack_b79 hd hk18 hf).to ⟨rfl, rfl, rfl, rfl, rfl, rfl, rfl, rfl, rfl, rfl, trivial⟩
def fX3_pack_b201 (N : Nat) (k134 : Nat → Nat → Int32 → Int32 → Int32 → Int32 → Int32 → Int32 → eH → Option ((Int32 ⊕ Nat) × eH)) (l0 : Nat) (l1 : Nat) (l3 : Int32) (l4 : Int32) (l5 : Int32) (l6 : Int32) (l8 : Int32) (l9 : Int32) (h : eH) : Option ((Int32 ⊕ Nat) × eH) :=
  k134 l0 l1 l3 l4 l5 l6 l8 (l9 + (1 : Int32)) h
theorem pX3_pack_b201 {w : eW} {d : Nat} (hd : 8 ≤ d + 1) {N : Nat} {k134 : Nat → Nat → Int32 → Int32 → Int32 → Int32 → Int32 → Int32 → eH → Option ((Int32 ⊕ Nat) × eH)} (hk134 : ∀ l0 l1 l3 l4 l5 l6 l8 l9 h q, k134 l0 l1 l3 l4 l5 l6 l8 l9 h = some q → wp w (d + 1) YX3_pack 134 [some (.ref l0), some (.ref l1), none, some (.int l3), some (.int l4), some (.int l5), some (.int l6), none, some (.int l8), some (.int l9)] [] h (e_is (e_rt c_I q))) {l0 : Nat} {l1 : Nat} {l3 : Int32} {l4 : Int32} {l5 : Int32} {l6 : Int32} {l8 : Int32} {l9 : Int32} {h : eH} {q} (hf : fX3_pack_b201 N k134 l0 l1 l3 l4 l5 l6 l8 l9 h = some q) : wp w (d + 1) YX3_pack 201 [some (.ref l0), some (.ref l1), none, some (.int l3), some (.int l4), some (.int l5), some (.int l6), none, some (.int l8), some (.int l9)] [] h (e_is (e_rt c_I q)) := by
  unfold fX3_pack_b201 at hf
  refine w_iinc dX3_pack_201 (v := (l9 + (1 : Int32))) rfl rfl (by decide) (ls' := [some (.ref l0), some (.ref l1), none, some (.int l3), some (.int l4), some (.int l5), some (.int l6), none, some (.int l8), some (.int (l9 + (1 : Int32)))]) rfl ?_
  refine w_goto 134 dX3_pack_204 (by decide) ?_
  exact (hk134 _ _ _ _ _ _ _ _ _ _ hf).to ⟨rfl, rfl, rfl, rfl, rfl, rfl, rfl, rfl, trivial⟩
def fX3_pack_b346 (N : Nat) (l0 : Nat) (s0 : Nat) (s1 : Int32) (s2 : Int32) (s3 : Int32) (h : eH) : Option ((Int32 ⊕ Nat) × eH) :=
  (q_V 100 h s0 s1 (.int (s2 + s3))).bind fun h1 =>
  (g_I 2 h1 l0 4).bind fun x3 =>
  (p_V 2 h1 l0 4 (.int (x3 + (1 : Int32)))).bind fun h5 =>
  some (.inl x3, h5)
theorem pX3_pack_b346 {w : eW} {d : Nat} (hd : 8 ≤ d + 1) {N : Nat} {l0 : Nat} {s0 : Nat} {s1 : Int32} {s2 : Int32} {s3 : Int32} {h : eH} {q} (hf : fX3_pack_b346 N l0 s0 s1 s2 s3 h = some q) : wp w (d + 1) YX3_pack 346 [some (.ref l0), none, none, none, none, none, none, none, none, none] [.int s3, .int s2, .int s1, .ref s0] h (e_is (e_rt c_I q)) := by
  unfold fX3_pack_b346 at hf
  refine w_iadd dX3_pack_346 ?_
  obtain ⟨h1, b2, hf⟩ := Option.bind_eq_some_iff.mp hf
  refine x_qI b2 dX3_pack_347 ?_
  refine w_aload_n dX3_pack_348 rfl rfl ?_
  refine w_dup dX3_pack_349 rfl ?_
  obtain ⟨x3, b4, hf⟩ := Option.bind_eq_some_iff.mp hf
  refine GX3_191 b4 dX3_pack_350 rfl ?_
  refine w_dup_x1 dX3_pack_353 rfl rfl ?_
  refine w_iconst dX3_pack_354 (v := 1) (by decide) ?_
  refine w_iadd dX3_pack_355 ?_
  obtain ⟨h5, b6, hf⟩ := Option.bind_eq_some_iff.mp hf
  refine SX3_191 b6 dX3_pack_356 rfl ?_
  cases hf
  exact w_iret dX3_pack_359 rfl rfl rfl
def fX3_pack_b235 (N : Nat) (l0 : Nat) (l3 : Int32) (l4 : Int32) (l5 : Int32) (l6 : Int32) (l8 : Int32) (h : eH) : Option ((Int32 ⊕ Nat) × eH) :=
  (g_A 2 h l0 3).bind fun a1 =>
  (g_I 2 h l0 4).bind fun x3 =>
  (r_A 104 h a1 x3).bind fun a5 =>
  (p_V 41 h a5 0 (.int l6)).bind fun h7 =>
  (g_A 2 h7 l0 2).bind fun a9 =>
  (g_I 6 h7 a9 3).bind fun x11 =>
  (p_V 41 h7 a5 1 (.int x11)).bind fun h13 =>
  (p_Z 41 h13 a5 2 l3).bind fun h15 =>
  (g_A 2 h15 l0 0).bind fun a17 =>
  (g_A 2 h15 l0 9).bind fun a19 =>
  (k_ok 18 h15 a19).bind fun _ =>
  (fX19_pack N a19 a5 l4 l5 (1073741823 : Int32) h15).bind fun q22 =>
  (k_ok 3 q22.2 a17).bind fun _ =>
  t_B (fX4_want a17 q22.1 (16 : Int32) q22.2) fun x24 h25 =>
  (g_A 2 h25 l0 9).bind fun a26 =>
  (k_ok 18 h25 a26).bind fun _ =>
  (fX19_settle N a26 a5 h25).bind fun q29 =>
  (g_A 2 q29.2 l0 36).bind fun a30 =>
  (r_I 100 q29.2 a30 (2 : Int32)).bind fun x32 =>
  (q_V 100 q29.2 a30 (2 : Int32) (.int (x32 + (1 : Int32)))).bind fun h34 =>
  (g_A 2 h34 l0 36).bind fun a36 =>
  (r_I 100 h34 a36 (3 : Int32)).bind fun x38 =>
  (q_V 100 h34 a36 (3 : Int32) (.int (x38 + l8))).bind fun h40 =>
  (g_A 2 h40 l0 36).bind fun a42 =>
  (r_I 100 h40 a42 (5 : Int32)).bind fun x44 =>
  (g_I 41 h40 a5 10).bind fun x46 =>
  if x46 ≤ 0 then
    fX3_pack_b346 N l0 a42 (5 : Int32) x44 (0 : Int32) h40
  else
    fX3_pack_b346 N l0 a42 (5 : Int32) x44 (1 : Int32) h40
theorem pX3_pack_b235 {w : eW} {d : Nat} (hd : 8 ≤ d + 1) {N : Nat} {l0 : Nat} {l3 : Int32} {l4 : Int32} {l5 : Int32} {l6 : Int32} {l8 : Int32} {h : eH} {q} (hf : fX3_pack_b235 N l0 l3 l4 l5 l6 l8 h = some q) : wp w (d + 1) YX3_pack 235 [some (.ref l0), none, none, some (.int l3), some (.int l4), some (.int l5), some (.int l6), none, some (.int l8), none] [] h (e_is (e_rt c_I q)) := by
  unfold fX3_pack_b235 at hf
  refine w_aload_n dX3_pack_235 rfl rfl ?_
  obtain ⟨a1, b2, hf⟩ := Option.bind_eq_some_iff.mp hf
  refine GX3_36 b2 dX3_pack_236 rfl ?_
  refine w_aload_n dX3_pack_239 rfl rfl ?_
  obtain ⟨x3, b4, hf⟩ := Option.bind_eq_some_iff.mp hf
  refine GX3_191 b4 dX3_pack_240 rfl ?_
  obtain ⟨a5, b6, hf⟩ := Option.bind_eq_some_iff.mp hf
  refine x_rA (c := 104) (by decide) b6 dX3_pack_243 ?_
  refine w_astore dX3_pack_244 (by decide) (ls' := [some (.ref l0), none, none, some (.int l3), some (.int l4), some (.int l5), some (.int l6), none, some (.int l8), some (.ref a5)]) rfl ?_
  refine w_aload dX3_pack_246 rfl ?_
  refine w_iload dX3_pack_248 rfl ?_
  obtain ⟨h7, b8, hf⟩ := Option.bind_eq_some_iff.mp hf
  refine SX3_374 b8 dX3_pack_250 rfl ?_
  refine w_aload dX3_pack_253 rfl ?_
  refine w_aload_n dX3_pack_255 rfl rfl ?_
  obtain ⟨a9, b10, hf⟩ := Option.bind_eq_some_iff.mp hf
  refine GX3_30 b10 dX3_pack_256 rfl ?_
  obtain ⟨x11, b12, hf⟩ := Option.bind_eq_some_iff.mp hf
  refine GX3_187 b12 dX3_pack_259 rfl ?_
  obtain ⟨h13, b14, hf⟩ := Option.bind_eq_some_iff.mp hf
  refine SX3_377 b14 dX3_pack_262 rfl ?_
  refine w_aload dX3_pack_265 rfl ?_
  refine w_iload_n dX3_pack_267 rfl rfl ?_
  obtain ⟨h15, b16, hf⟩ := Option.bind_eq_some_iff.mp hf
  refine SX3_380 b16 dX3_pack_268 rfl ?_
  refine w_aload_n dX3_pack_271 rfl rfl ?_
  obtain ⟨a17, b18, hf⟩ := Option.bind_eq_some_iff.mp hf
  refine GX3_14 b18 dX3_pack_272 rfl ?_
  refine w_aload_n dX3_pack_275 rfl rfl ?_
  obtain ⟨a19, b20, hf⟩ := Option.bind_eq_some_iff.mp hf
  refine GX3_73 b20 dX3_pack_276 rfl ?_
  refine w_aload dX3_pack_279 rfl ?_
  refine w_iload dX3_pack_281 rfl ?_
  refine w_iload dX3_pack_283 rfl ?_
  refine w_ldc_w dX3_pack_285 q3570 ?_
  obtain ⟨_, b21, hf⟩ := Option.bind_eq_some_iff.mp hf
  refine x_cnI hf (e_stV (Yc := YX19_pack) (ci := 18) (av := [.ref a5, .int l4, .int l5, .int (1073741823 : Int32)]) (st := [.ref a17]) dX3_pack_288 q3571 mX19_pack rfl (k_ok_some b21).1 (k_ok_some b21).2) mX19_pack.2.2.1 mX19_pack.2.2.2.2.1 (Nat.le_of_ble_eq_true rfl) (Nat.le_of_ble_eq_true rfl) (fun q hq => pX19_pack (by omega) hq) (fun q22 hf => ?_)
  refine w_bipush dX3_pack_291 (v := 16) (by decide) ?_
  obtain ⟨_, b23, hf⟩ := Option.bind_eq_some_iff.mp hf
  refine x_ctV hf (e_stV (Yc := YX4_want) (ci := 3) (av := [.int q22.1, .int (16 : Int32)]) (st := []) dX3_pack_293 q2846 mX4_want rfl (k_ok_some b23).1 (k_ok_some b23).2) mX4_want.2.2.1 mX4_want.2.2.2.2.1 (Nat.le_of_ble_eq_true rfl) (Nat.le_of_ble_eq_true rfl) rfl (fun q hq => pX4_want (by omega) hq) (fun x24 h25 hf => ?_)
  refine w_aload_n dX3_pack_296 rfl rfl ?_
  obtain ⟨a26, b27, hf⟩ := Option.bind_eq_some_iff.mp hf
  refine GX3_73 b27 dX3_pack_297 rfl ?_
  refine w_aload dX3_pack_300 rfl ?_
  obtain ⟨_, b28, hf⟩ := Option.bind_eq_some_iff.mp hf
  refine x_cnV hf (e_stV (Yc := YX19_settle) (ci := 18) (av := [.ref a5]) (st := []) dX3_pack_302 q3633 mX19_settle rfl (k_ok_some b28).1 (k_ok_some b28).2) mX19_settle.2.2.1 mX19_settle.2.2.2.2.1 (Nat.le_of_ble_eq_true rfl) (Nat.le_of_ble_eq_true rfl) (fun q hq => pX19_settle (by omega) hq) (fun q29 hf => ?_)
  refine w_aload_n dX3_pack_305 rfl rfl ?_
  obtain ⟨a30, b31, hf⟩ := Option.bind_eq_some_iff.mp hf
  refine GX3_178 b31 dX3_pack_306 rfl ?_
  refine w_iconst dX3_pack_309 (v := 2) (by decide) ?_
  refine w_dup2_11 dX3_pack_310 rfl rfl ?_
  obtain ⟨x32, b33, hf⟩ := Option.bind_eq_some_iff.mp hf
  refine x_rI b33 dX3_pack_311 ?_
  refine w_iconst dX3_pack_312 (v := 1) (by decide) ?_
  refine w_iadd dX3_pack_313 ?_
  obtain ⟨h34, b35, hf⟩ := Option.bind_eq_some_iff.mp hf
  refine x_qI b35 dX3_pack_314 ?_
  refine w_aload_n dX3_pack_315 rfl rfl ?_
  obtain ⟨a36, b37, hf⟩ := Option.bind_eq_some_iff.mp hf
  refine GX3_178 b37 dX3_pack_316 rfl ?_
  refine w_iconst dX3_pack_319 (v := 3) (by decide) ?_
  refine w_dup2_11 dX3_pack_320 rfl rfl ?_
  obtain ⟨x38, b39, hf⟩ := Option.bind_eq_some_iff.mp hf
  refine x_rI b39 dX3_pack_321 ?_
  refine w_iload dX3_pack_322 rfl ?_
  refine w_iadd dX3_pack_324 ?_
  obtain ⟨h40, b41, hf⟩ := Option.bind_eq_some_iff.mp hf
  refine x_qI b41 dX3_pack_325 ?_
  refine w_aload_n dX3_pack_326 rfl rfl ?_
  obtain ⟨a42, b43, hf⟩ := Option.bind_eq_some_iff.mp hf
  refine GX3_178 b43 dX3_pack_327 rfl ?_
  refine w_iconst dX3_pack_330 (v := 5) (by decide) ?_
  refine w_dup2_11 dX3_pack_331 rfl rfl ?_
  obtain ⟨x44, b45, hf⟩ := Option.bind_eq_some_iff.mp hf
  refine x_rI b45 dX3_pack_332 ?_
  refine w_aload dX3_pack_333 rfl ?_
  obtain ⟨x46, b47, hf⟩ := Option.bind_eq_some_iff.mp hf
  refine GX3_391 b47 dX3_pack_335 rfl ?_
  refine w_if_le 345 dX3_pack_338 (by decide) (fun c48 => ?_) (fun c48 => ?_)
  · replace hf := (if_pos (show x46 ≤ 0 from c48)).symm.trans hf
    refine w_iconst dX3_pack_345 (v := 0) (by decide) ?_
    exact (pX3_pack_b346 hd hf).to ⟨rfl, trivial⟩
  · replace hf := (if_neg (show ¬ (x46 ≤ 0) from c48)).symm.trans hf
    refine w_iconst dX3_pack_341 (v := 1) (by decide) ?_
    refine w_goto 346 dX3_pack_342 (by decide) ?_
    exact (pX3_pack_b346 hd hf).to ⟨rfl, trivial⟩
def fX3_pack_b134 (N : Nat) : Nat → Nat → Nat → Int32 → Int32 → Int32 → Int32 → Int32 → Int32 → eH → Option ((Int32 ⊕ Nat) × eH)
  | 0, _, _, _, _, _, _, _, _, _ => none
  | n + 1, l0, l1, l3, l4, l5, l6, l8, l9, h =>
    (g_I 33 h l1 1).bind fun x1 =>
    if x1 ≤ l9 then
      (g_A 2 h l0 3).bind fun a4 =>
      (g_I 2 h l0 4).bind fun x6 =>
      (r_O 104 h a4 x6).bind fun a8 =>
      match a8 with
      | none =>
        (g_A 2 h l0 3).bind fun a11 =>
        (g_I 2 h l0 4).bind fun x13 =>
        (n_obj 41 187 13 tyX39 h).bind fun q15 =>
        (fX39_init q15.1 q15.2).bind fun q17 =>
        (q_A 104 41 q17.2 a11 x13 q15.1).bind fun h18 =>
        fX3_pack_b235 N l0 l3 l4 l5 l6 l8 h18
      | some a10 =>
        fX3_pack_b235 N l0 l3 l4 l5 l6 l8 h
    else
      (k_ok 33 h l1).bind fun _ =>
      (fX34_kind l1 l9 h).bind fun q21 =>
      if (5 : Int32) ≤ q21.1 then
        fX3_pack_b201 N (fX3_pack_b134 N n) l0 l1 l3 l4 l5 l6 l8 l9 q21.2
      else
        (g_A 2 q21.2 l0 2).bind fun a23 =>
        (k_ok 33 q21.2 l1).bind fun _ =>
        (fX34_kind l1 l9 q21.2).bind fun q26 =>
        (k_ok 33 q26.2 l1).bind fun _ =>
        (fX34_of l1 l9 (0 : Int32) q26.2).bind fun q28 =>
        (k_ok 33 q28.2 l1).bind fun _ =>
        (fX34_of l1 l9 (1 : Int32) q28.2).bind fun q30 =>
        (k_ok 33 q30.2 l1).bind fun _ =>
        (fX34_of l1 l9 (2 : Int32) q30.2).bind fun q32 =>
        (k_ok 33 q32.2 l1).bind fun _ =>
        (fX34_of l1 l9 (3 : Int32) q32.2).bind fun q34 =>
        (k_ok 33 q34.2 l1).bind fun _ =>
        (fX34_of l1 l9 (4 : Int32) q34.2).bind fun q36 =>
        (k_ok 6 q36.2 a23).bind fun _ =>
        (fX7_add a23 q26.1 q28.1 q30.1 q32.1 q34.1 q36.1 q36.2).bind fun q38 =>
        fX3_pack_b201 N (fX3_pack_b134 N n) l0 l1 l3 l4 l5 l6 l8 l9 q38.2
theorem pX3_pack_b134 {w : eW} {d : Nat} (hd : 8 ≤ d + 1) {N : Nat} : ∀ (n : Nat) l0 l1 l3 l4 l5 l6 l8 l9 h q, fX3_pack_b134 N n l0 l1 l3 l4 l5 l6 l8 l9 h = some q → wp w (d + 1) YX3_pack 134 [some (.ref l0), some (.ref l1), none, some (.int l3), some (.int l4), some (.int l5), some (.int l6), none, some (.int l8), some (.int l9)] [] h (e_is (e_rt c_I q)) := by
  intro n
  induction n with
  | zero => intro l0 l1 l3 l4 l5 l6 l8 l9 h q hf; simp [fX3_pack_b134] at hf
  | succ n ih =>
    intro l0 l1 l3 l4 l5 l6 l8 l9 h q hf
    rw [fX3_pack_b134] at hf
    refine w_iload dX3_pack_134 rfl ?_
    refine w_aload_n dX3_pack_136 rfl rfl ?_
    obtain ⟨x1, b2, hf⟩ := Option.bind_eq_some_iff.mp hf
    refine GX3_210 b2 dX3_pack_137 rfl ?_
    refine w_icmp_ge 207 dX3_pack_140 (by decide) (fun c3 => ?_) (fun c3 => ?_)
    · replace hf := (if_pos (show x1 ≤ l9 from c3)).symm.trans hf
      refine w_aload_n dX3_pack_207 rfl rfl ?_
      obtain ⟨a4, b5, hf⟩ := Option.bind_eq_some_iff.mp hf
      refine GX3_36 b5 dX3_pack_208 rfl ?_
      refine w_aload_n dX3_pack_211 rfl rfl ?_
      obtain ⟨x6, b7, hf⟩ := Option.bind_eq_some_iff.mp hf
      refine GX3_191 b7 dX3_pack_212 rfl ?_
      obtain ⟨a8, b9, hf⟩ := Option.bind_eq_some_iff.mp hf
      refine x_rO (c := 104) (by decide) b9 dX3_pack_215 ?_
      cases a8 with
      | none =>
        refine w_ifnonnullN dX3_pack_216 ?_
        refine w_aload_n dX3_pack_219 rfl rfl ?_
        obtain ⟨a11, b12, hf⟩ := Option.bind_eq_some_iff.mp hf
        refine GX3_36 b12 dX3_pack_220 rfl ?_
        refine w_aload_n dX3_pack_223 rfl rfl ?_
        obtain ⟨x13, b14, hf⟩ := Option.bind_eq_some_iff.mp hf
        refine GX3_191 b14 dX3_pack_224 rfl ?_
        obtain ⟨q15, b16, hf⟩ := Option.bind_eq_some_iff.mp hf
        refine x_new (ci := 41) (g := 187) b16 dX3_pack_227 rfl tyX39_ok q636 q2640 q482 ?_
        refine w_dup dX3_pack_230 rfl ?_
        refine x_cnV hf (e_stIN (Yc := YX39_init) (b := q15.1) (av := []) (st := [.ref q15.1, .int x13, .ref a11]) dX3_pack_231 q3499 mX39_init) (e_mi.cd mX39_init) mX39_init.2.2.2.2.2.1 (Nat.le_of_ble_eq_true rfl) (Nat.le_of_ble_eq_true rfl) (fun q hq => pX39_init (by omega) hq) (fun q17 hf => ?_)
        obtain ⟨h18, b19, hf⟩ := Option.bind_eq_some_iff.mp hf
        refine x_qA (c := 104) (cb := 41) (by decide) rfl rfl b19 dX3_pack_234 ?_
        exact (pX3_pack_b235 hd hf).to ⟨rfl, rfl, rfl, rfl, rfl, rfl, trivial⟩
      | some a10 =>
        refine w_ifnonnull 235 dX3_pack_216 (by decide) ?_
        exact (pX3_pack_b235 hd hf).to ⟨rfl, rfl, rfl, rfl, rfl, rfl, trivial⟩
    · replace hf := (if_neg (show ¬ (x1 ≤ l9) from c3)).symm.trans hf
      refine w_aload_n dX3_pack_143 rfl rfl ?_
      refine w_iload dX3_pack_144 rfl ?_
      obtain ⟨_, b20, hf⟩ := Option.bind_eq_some_iff.mp hf
      refine x_cnI hf (e_stV (Yc := YX34_kind) (ci := 33) (av := [.int l9]) (st := []) dX3_pack_146 q3157 mX34_kind rfl (k_ok_some b20).1 (k_ok_some b20).2) mX34_kind.2.2.1 mX34_kind.2.2.2.2.1 (Nat.le_of_ble_eq_true rfl) (Nat.le_of_ble_eq_true rfl) (fun q hq => pX34_kind (by omega) hq) (fun q21 hf => ?_)
      refine w_iconst dX3_pack_149 (v := 5) (by decide) ?_
      refine w_icmp_ge 201 dX3_pack_150 (by decide) (fun c22 => ?_) (fun c22 => ?_)
      · replace hf := (if_pos (show (5 : Int32) ≤ q21.1 from c22)).symm.trans hf
        exact (pX3_pack_b201 hd ih hf).to ⟨rfl, rfl, rfl, rfl, rfl, rfl, rfl, rfl, trivial⟩
      · replace hf := (if_neg (show ¬ ((5 : Int32) ≤ q21.1) from c22)).symm.trans hf
        refine w_aload_n dX3_pack_153 rfl rfl ?_
        obtain ⟨a23, b24, hf⟩ := Option.bind_eq_some_iff.mp hf
        refine GX3_30 b24 dX3_pack_154 rfl ?_
        refine w_aload_n dX3_pack_157 rfl rfl ?_
        refine w_iload dX3_pack_158 rfl ?_
        obtain ⟨_, b25, hf⟩ := Option.bind_eq_some_iff.mp hf
        refine x_cnI hf (e_stV (Yc := YX34_kind) (ci := 33) (av := [.int l9]) (st := [.ref a23]) dX3_pack_160 q3157 mX34_kind rfl (k_ok_some b25).1 (k_ok_some b25).2) mX34_kind.2.2.1 mX34_kind.2.2.2.2.1 (Nat.le_of_ble_eq_true rfl) (Nat.le_of_ble_eq_true rfl) (fun q hq => pX34_kind (by omega) hq) (fun q26 hf => ?_)
        refine w_aload_n dX3_pack_163 rfl rfl ?_
        refine w_iload dX3_pack_164 rfl ?_
        refine w_iconst dX3_pack_166 (v := 0) (by decide) ?_
        obtain ⟨_, b27, hf⟩ := Option.bind_eq_some_iff.mp hf
        refine x_cnI hf (e_stV (Yc := YX34_of) (ci := 33) (av := [.int l9, .int (0 : Int32)]) (st := [.int q26.1, .ref a23]) dX3_pack_167 q3161 mX34_of rfl (k_ok_some b27).1 (k_ok_some b27).2) mX34_of.2.2.1 mX34_of.2.2.2.2.1 (Nat.le_of_ble_eq_true rfl) (Nat.le_of_ble_eq_true rfl) (fun q hq => pX34_of (by omega) hq) (fun q28 hf => ?_)
        refine w_aload_n dX3_pack_170 rfl rfl ?_
        refine w_iload dX3_pack_171 rfl ?_
        refine w_iconst dX3_pack_173 (v := 1) (by decide) ?_
        obtain ⟨_, b29, hf⟩ := Option.bind_eq_some_iff.mp hf
        refine x_cnI hf (e_stV (Yc := YX34_of) (ci := 33) (av := [.int l9, .int (1 : Int32)]) (st := [.int q28.1, .int q26.1, .ref a23]) dX3_pack_174 q3161 mX34_of rfl (k_ok_some b29).1 (k_ok_some b29).2) mX34_of.2.2.1 mX34_of.2.2.2.2.1 (Nat.le_of_ble_eq_true rfl) (Nat.le_of_ble_eq_true rfl) (fun q hq => pX34_of (by omega) hq) (fun q30 hf => ?_)
        refine w_aload_n dX3_pack_177 rfl rfl ?_
        refine w_iload dX3_pack_178 rfl ?_
        refine w_iconst dX3_pack_180 (v := 2) (by decide) ?_
        obtain ⟨_, b31, hf⟩ := Option.bind_eq_some_iff.mp hf
        refine x_cnI hf (e_stV (Yc := YX34_of) (ci := 33) (av := [.int l9, .int (2 : Int32)]) (st := [.int q30.1, .int q28.1, .int q26.1, .ref a23]) dX3_pack_181 q3161 mX34_of rfl (k_ok_some b31).1 (k_ok_some b31).2) mX34_of.2.2.1 mX34_of.2.2.2.2.1 (Nat.le_of_ble_eq_true rfl) (Nat.le_of_ble_eq_true rfl) (fun q hq => pX34_of (by omega) hq) (fun q32 hf => ?_)
        refine w_aload_n dX3_pack_184 rfl rfl ?_
        refine w_iload dX3_pack_185 rfl ?_
        refine w_iconst dX3_pack_187 (v := 3) (by decide) ?_
        obtain ⟨_, b33, hf⟩ := Option.bind_eq_some_iff.mp hf
        refine x_cnI hf (e_stV (Yc := YX34_of) (ci := 33) (av := [.int l9, .int (3 : Int32)]) (st := [.int q32.1, .int q30.1, .int q28.1, .int q26.1, .ref a23]) dX3_pack_188 q3161 mX34_of rfl (k_ok_some b33).1 (k_ok_some b33).2) mX34_of.2.2.1 mX34_of.2.2.2.2.1 (Nat.le_of_ble_eq_true rfl) (Nat.le_of_ble_eq_true rfl) (fun q hq => pX34_of (by omega) hq) (fun q34 hf => ?_)
        refine w_aload_n dX3_pack_191 rfl rfl ?_
        refine w_iload dX3_pack_192 rfl ?_
        refine w_iconst dX3_pack_194 (v := 4) (by decide) ?_
        obtain ⟨_, b35, hf⟩ := Option.bind_eq_some_iff.mp hf
        refine x_cnI hf (e_stV (Yc := YX34_of) (ci := 33) (av := [.int l9, .int (4 : Int32)]) (st := [.int q34.1, .int q32.1, .int q30.1, .int q28.1, .int q26.1, .ref a23]) dX3_pack_195 q3161 mX34_of rfl (k_ok_some b35).1 (k_ok_some b35).2) mX34_of.2.2.1 mX34_of.2.2.2.2.1 (Nat.le_of_ble_eq_true rfl) (Nat.le_of_ble_eq_true rfl) (fun q hq => pX34_of (by omega) hq) (fun q36 hf => ?_)
        obtain ⟨_, b37, hf⟩ := Option.bind_eq_some_iff.mp hf
        refine x_cnV hf (e_stV (Yc := YX7_add) (ci := 6) (av := [.int q26.1, .int q28.1, .int q30.1, .int q32.1, .int q34.1, .int q36.1]) (st := []) dX3_pack_198 q3490 mX7_add rfl (k_ok_some b37).1 (k_ok_some b37).2) mX7_add.2.2.1 mX7_add.2.2.2.2.1 (Nat.le_of_ble_eq_true rfl) (Nat.le_of_ble_eq_true rfl) (fun q hq => pX7_add (by omega) hq) (fun q38 hf => ?_)
        exact (pX3_pack_b201 hd ih hf).to ⟨rfl, rfl, rfl, rfl, rfl, rfl, rfl, rfl, trivial⟩
def fX3_pack_b127 (N : Nat) (l0 : Nat) (l1 : Nat) (l2 : Int32) (l3 : Int32) (l4 : Int32) (l5 : Int32) (l6 : Int32) (l8 : Int32) (s0 : Nat) (s1 : Int32) (h : eH) : Option ((Int32 ⊕ Nat) × eH) :=
  (k_ok 3 h s0).bind fun _ =>
  t_B (fX4_want s0 s1 (2 : Int32) h) fun x2 h3 =>
  fX3_pack_b134 N N l0 l1 l3 l4 l5 l6 l8 l2 h3
theorem pX3_pack_b127 {w : eW} {d : Nat} (hd : 8 ≤ d + 1) {N : Nat} {l0 : Nat} {l1 : Nat} {l2 : Int32} {l3 : Int32} {l4 : Int32} {l5 : Int32} {l6 : Int32} {l8 : Int32} {s0 : Nat} {s1 : Int32} {h : eH} {q} (hf : fX3_pack_b127 N l0 l1 l2 l3 l4 l5 l6 l8 s0 s1 h = some q) : wp w (d + 1) YX3_pack 127 [some (.ref l0), some (.ref l1), some (.int l2), some (.int l3), some (.int l4), some (.int l5), some (.int l6), none, some (.int l8), none] [.int s1, .ref s0] h (e_is (e_rt c_I q)) := by
  unfold fX3_pack_b127 at hf
  refine w_iconst dX3_pack_127 (v := 2) (by decide) ?_
  obtain ⟨_, b1, hf⟩ := Option.bind_eq_some_iff.mp hf
  refine x_ctV hf (e_stV (Yc := YX4_want) (ci := 3) (av := [.int s1, .int (2 : Int32)]) (st := []) dX3_pack_128 q2846 mX4_want rfl (k_ok_some b1).1 (k_ok_some b1).2) mX4_want.2.2.1 mX4_want.2.2.2.2.1 (Nat.le_of_ble_eq_true rfl) (Nat.le_of_ble_eq_true rfl) rfl (fun q hq => pX4_want (by omega) hq) (fun x2 h3 hf => ?_)
  refine w_iload_n dX3_pack_131 rfl rfl ?_
  refine w_istore dX3_pack_132 (by decide) (ls' := [some (.ref l0), some (.ref l1), some (.int l2), some (.int l3), some (.int l4), some (.int l5), some (.int l6), none, some (.int l8), some (.int l2)]) rfl ?_
  exact (pX3_pack_b134 hd N _ _ _ _ _ _ _ _ _ _ hf).to ⟨rfl, rfl, rfl, rfl, rfl, rfl, rfl, rfl, trivial⟩
def fX3_pack_b126 (N : Nat) (l0 : Nat) (l1 : Nat) (l2 : Int32) (l3 : Int32) (l4 : Int32) (l5 : Int32) (l6 : Int32) (l8 : Int32) (s0 : Nat) (h : eH) : Option ((Int32 ⊕ Nat) × eH) :=
  fX3_pack_b127 N l0 l1 l2 l3 l4 l5 l6 l8 s0 (0 : Int32) h
theorem pX3_pack_b126 {w : eW} {d : Nat} (hd : 8 ≤ d + 1) {N : Nat} {l0 : Nat} {l1 : Nat} {l2 : Int32} {l3 : Int32} {l4 : Int32} {l5 : Int32} {l6 : Int32} {l8 : Int32} {s0 : Nat} {h : eH} {q} (hf : fX3_pack_b126 N l0 l1 l2 l3 l4 l5 l6 l8 s0 h = some q) : wp w (d + 1) YX3_pack 126 [some (.ref l0), some (.ref l1), some (.int l2), some (.int l3), some (.int l4), some (.int l5), some (.int l6), none, some (.int l8), none] [.ref s0] h (e_is (e_rt c_I q)) := by
  unfold fX3_pack_b126 at hf
  refine w_iconst dX3_pack_126 (v := 0) (by decide) ?_
  exact (pX3_pack_b127 hd hf).to ⟨rfl, rfl, rfl, rfl, rfl, rfl, rfl, rfl, trivial⟩
def fX3_pack_b18 (N : Nat) : Nat → Nat → Nat → Int32 → Int32 → Int32 → Int32 → Int32 → Int32 → Int32 → Int32 → eH → Option ((Int32 ⊕ Nat) × eH)
  | 0, _, _, _, _, _, _, _, _, _, _, _ => none
  | n + 1, l0, l1, l2, l3, l4, l5, l6, l7, l8, l9, h =>
    (g_I 33 h l1 1).bind fun x1 =>
    if x1 ≤ l9 then
      (g_A 2 h l0 0).bind fun a4 =>
      (g_I 2 h l0 4).bind fun x6 =>
      if (3000 : Int32) ≤ x6 then
        fX3_pack_b126 N l0 l1 l2 l3 l4 l5 l6 l8 a4 h
      else
        (g_A 2 h l0 2).bind fun a9 =>
        (g_I 6 h a9 3).bind fun x11 =>
        if (20000 : Int32) < (x11 + l8) then
          fX3_pack_b126 N l0 l1 l2 l3 l4 l5 l6 l8 a4 h
        else
          if (10 : Int32) ≤ l7 then
            fX3_pack_b126 N l0 l1 l2 l3 l4 l5 l6 l8 a4 h
          else
            fX3_pack_b127 N l0 l1 l2 l3 l4 l5 l6 l8 a4 (1 : Int32) h
    else
      (k_ok 33 h l1).bind fun _ =>
      (fX34_kind l1 l9 h).bind fun q16 =>
      if (5 : Int32) ≤ q16.1 then
        fX3_pack_b44 N (fX3_pack_b18 N n) l0 l1 l2 l3 l4 l5 l6 l7 l9 l8 (0 : Int32) q16.2
      else
        fX3_pack_b44 N (fX3_pack_b18 N n) l0 l1 l2 l3 l4 l5 l6 l7 l9 l8 (1 : Int32) q16.2
theorem pX3_pack_b18 {w : eW} {d : Nat} (hd : 8 ≤ d + 1) {N : Nat} : ∀ (n : Nat) l0 l1 l2 l3 l4 l5 l6 l7 l8 l9 h q, fX3_pack_b18 N n l0 l1 l2 l3 l4 l5 l6 l7 l8 l9 h = some q → wp w (d + 1) YX3_pack 18 [some (.ref l0), some (.ref l1), some (.int l2), some (.int l3), some (.int l4), some (.int l5), some (.int l6), some (.int l7), some (.int l8), some (.int l9)] [] h (e_is (e_rt c_I q)) := by
  intro n
  induction n with
  | zero => intro l0 l1 l2 l3 l4 l5 l6 l7 l8 l9 h q hf; simp [fX3_pack_b18] at hf
  | succ n ih =>
    intro l0 l1 l2 l3 l4 l5 l6 l7 l8 l9 h q hf
    rw [fX3_pack_b18] at hf
    refine w_iload dX3_pack_18 rfl ?_
    refine w_aload_n dX3_pack_20 rfl rfl ?_
    obtain ⟨x1, b2, hf⟩ := Option.bind_eq_some_iff.mp hf
    refine GX3_210 b2 dX3_pack_21 rfl ?_
    refine w_icmp_ge 85 dX3_pack_24 (by decide) (fun c3 => ?_) (fun c3 => ?_)
    · replace hf := (if_pos (show x1 ≤ l9 from c3)).symm.trans hf
      refine w_aload_n dX3_pack_85 rfl rfl ?_
      obtain ⟨a4, b5, hf⟩ := Option.bind_eq_some_iff.mp hf
      refine GX3_14 b5 dX3_pack_86 rfl ?_
      refine w_aload_n dX3_pack_89 rfl rfl ?_
      obtain ⟨x6, b7, hf⟩ := Option.bind_eq_some_iff.mp hf
      refine GX3_191 b7 dX3_pack_90 rfl ?_
      refine w_sipush dX3_pack_93 (v := 3000) (by decide) ?_
      refine w_icmp_ge 126 dX3_pack_96 (by decide) (fun c8 => ?_) (fun c8 => ?_)
      · replace hf := (if_pos (show (3000 : Int32) ≤ x6 from c8)).symm.trans hf
        exact (pX3_pack_b126 hd hf).to ⟨rfl, rfl, rfl, rfl, rfl, rfl, rfl, rfl, trivial⟩
      · replace hf := (if_neg (show ¬ ((3000 : Int32) ≤ x6) from c8)).symm.trans hf
        refine w_aload_n dX3_pack_99 rfl rfl ?_
        obtain ⟨a9, b10, hf⟩ := Option.bind_eq_some_iff.mp hf
        refine GX3_30 b10 dX3_pack_100 rfl ?_
        obtain ⟨x11, b12, hf⟩ := Option.bind_eq_some_iff.mp hf
        refine GX3_187 b12 dX3_pack_103 rfl ?_
        refine w_iload dX3_pack_106 rfl ?_
        refine w_iadd dX3_pack_108 ?_
        refine w_sipush dX3_pack_109 (v := 20000) (by decide) ?_
        refine w_icmp_gt 126 dX3_pack_112 (by decide) (fun c13 => ?_) (fun c13 => ?_)
        · replace hf := (if_pos (show (20000 : Int32) < (x11 + l8) from c13)).symm.trans hf
          exact (pX3_pack_b126 hd hf).to ⟨rfl, rfl, rfl, rfl, rfl, rfl, rfl, rfl, trivial⟩
        · replace hf := (if_neg (show ¬ ((20000 : Int32) < (x11 + l8)) from c13)).symm.trans hf
          refine w_iload dX3_pack_115 rfl ?_
          refine w_bipush dX3_pack_117 (v := 10) (by decide) ?_
          refine w_icmp_ge 126 dX3_pack_119 (by decide) (fun c14 => ?_) (fun c14 => ?_)
          · replace hf := (if_pos (show (10 : Int32) ≤ l7 from c14)).symm.trans hf
            exact (pX3_pack_b126 hd hf).to ⟨rfl, rfl, rfl, rfl, rfl, rfl, rfl, rfl, trivial⟩
          · replace hf := (if_neg (show ¬ ((10 : Int32) ≤ l7) from c14)).symm.trans hf
            refine w_iconst dX3_pack_122 (v := 1) (by decide) ?_
            refine w_goto 127 dX3_pack_123 (by decide) ?_
            exact (pX3_pack_b127 hd hf).to ⟨rfl, rfl, rfl, rfl, rfl, rfl, rfl, rfl, trivial⟩
    · replace hf := (if_neg (show ¬ (x1 ≤ l9) from c3)).symm.trans hf
      refine w_iload dX3_pack_27 rfl ?_
      refine w_aload_n dX3_pack_29 rfl rfl ?_
      refine w_iload dX3_pack_30 rfl ?_
      obtain ⟨_, b15, hf⟩ := Option.bind_eq_some_iff.mp hf
      refine x_cnI hf (e_stV (Yc := YX34_kind) (ci := 33) (av := [.int l9]) (st := [.int l8]) dX3_pack_32 q3157 mX34_kind rfl (k_ok_some b15).1 (k_ok_some b15).2) mX34_kind.2.2.1 mX34_kind.2.2.2.2.1 (Nat.le_of_ble_eq_true rfl) (Nat.le_of_ble_eq_true rfl) (fun q hq => pX34_kind (by omega) hq) (fun q16 hf => ?_)
      refine w_iconst dX3_pack_35 (v := 5) (by decide) ?_
      refine w_icmp_ge 43 dX3_pack_36 (by decide) (fun c17 => ?_) (fun c17 => ?_)
      · replace hf := (if_pos (show (5 : Int32) ≤ q16.1 from c17)).symm.trans hf
        refine w_iconst dX3_pack_43 (v := 0) (by decide) ?_
        exact (pX3_pack_b44 hd ih hf).to ⟨rfl, rfl, rfl, rfl, rfl, rfl, rfl, rfl, rfl, trivial⟩
      · replace hf := (if_neg (show ¬ ((5 : Int32) ≤ q16.1) from c17)).symm.trans hf
        refine w_iconst dX3_pack_39 (v := 1) (by decide) ?_
        refine w_goto 44 dX3_pack_40 (by decide) ?_
        exact (pX3_pack_b44 hd ih hf).to ⟨rfl, rfl, rfl, rfl, rfl, rfl, rfl, rfl, rfl, trivial⟩
def fX3_pack (N : Nat) (this : Nat) (p0 : Nat) (p1 : Int32) (p2 : Int32) (p3 : Int32) (p4 : Int32) (h : eH) : Option ((Int32 ⊕ Nat) × eH) :=
  (g_A 2 h this 2).bind fun a1 =>
  (g_I 6 h a1 3).bind fun x3 =>
  fX3_pack_b18 N N this p0 p1 p2 p3 p4 x3 (0 : Int32) (0 : Int32) p1 h
theorem pX3_pack {w : eW} {d : Nat} (hd : 8 ≤ d) {N : Nat} {this : Nat} {p0 : Nat} {p1 : Int32} {p2 : Int32} {p3 : Int32} {p4 : Int32} {h : eH} {q} (hf : fX3_pack N this p0 p1 p2 p3 p4 h = some q) : wm w d YX3_pack [.ref this, .ref p0, .int p1, .int p2, .int p3, .int p4] h (e_is (e_rt c_I q)) := by
  obtain ⟨d, rfl⟩ : ∃ e, d = e + 1 := ⟨d - 1, by omega⟩
  show wp w (d + 1) YX3_pack 0 [some (.ref this), some (.ref p0), some (.int p1), some (.int p2), some (.int p3), some (.int p4), none, none, none, none] [] h _
  unfold fX3_pack at hf
  refine w_aload_n dX3_pack_0 rfl rfl ?_
  obtain ⟨a1, b2, hf⟩ := Option.bind_eq_some_iff.mp hf
  refine GX3_30 b2 dX3_pack_1 rfl ?_
  obtain ⟨x3, b4, hf⟩ := Option.bind_eq_some_iff.mp hf
  refine GX3_187 b4 dX3_pack_4 rfl ?_
  refine w_istore dX3_pack_7 (by decide) (ls' := [some (.ref this), some (.ref p0), some (.int p1), some (.int p2), some (.int p3), some (.int p4), some (.int x3), none, none, none]) rfl ?_
  refine w_iconst dX3_pack_9 (v := 0) (by decide) ?_
  refine w_istore dX3_pack_10 (by decide) (ls' := [some (.ref this), some (.ref p0), some (.int p1), some (.int p2), some (.int p3), some (.int p4), some (.int x3), some (.int (0 : Int32)), none, none]) rfl ?_
  refine w_iconst dX3_pack_12 (v := 0) (by decide) ?_
  refine w_istore dX3_pack_13 (by decide) (ls' := [some (.ref this), some (.ref p0), some (.int p1), some (.int p2), some (.int p3), some (.int p4), some (.int x3), some (.int (0 : Int32)), some (.int (0 : Int32)), none]) rfl ?_
  refine w_iload_n dX3_pack_15 rfl rfl ?_
  refine w_istore dX3_pack_16 (by decide) (ls' := [some (.ref this), some (.ref p0), some (.int p1), some (.int p2), some (.int p3), some (.int p4), some (.int x3), some (.int (0 : Int32)), some (.int (0 : Int32)), some (.int p1)]) rfl ?_
  exact (pX3_pack_b18 hd N _ _ _ _ _ _ _ _ _ _ _ _ hf).to ⟨rfl, rfl, rfl, rfl, rfl, rfl, rfl, rfl, rfl, rfl, trivial⟩
abbrev cX3_indent : ByteArray := prog_26_method_10_code
def yX3_indent : MethodName := ⟨RX3, "indent", "()V"⟩
def YX3_indent : eY := (yX3_indent, cX3_indent, 1, none, [])
theorem mX3_indent : e_mv YX3_indent RX3 0 := ⟨q3484, qs144, q3485, by decide, by decide +kernel, (e_sig (by decide +kernel))⟩
theorem dX3_indent_0 : decode cX3_indent 0 = .ok (.aload_n 0, 1) := dc_42 (by decide +kernel)
theorem dX3_indent_1 : decode cX3_indent 1 = .ok (.getfield 133, 3) := dc_180 (a := 0) (b := 133) (n := 133) (by decide +kernel)
theorem dX3_indent_4 : decode cX3_indent 4 = .ok (.iconst 0, 1) := dc_3 (by decide +kernel)
theorem dX3_indent_5 : decode cX3_indent 5 = .ok (.putfield 210, 3) := dc_181 (a := 0) (b := 210) (n := 210) (by decide +kernel)
theorem dX3_indent_8 : decode cX3_indent 8 = .ok (.aload_n 0, 1) := dc_42 (by decide +kernel)
theorem dX3_indent_9 : decode cX3_indent 9 = .ok (.iconst 4, 1) := dc_7 (by decide +kernel)
theorem dX3_indent_10 : decode cX3_indent 10 = .ok (.aload_n 0, 1) := dc_42 (by decide +kernel)
theorem dX3_indent_11 : decode cX3_indent 11 = .ok (.aload_n 0, 1) := dc_42 (by decide +kernel)
theorem dX3_indent_12 : decode cX3_indent 12 = .ok (.getfield 133, 3) := dc_180 (a := 0) (b := 133) (n := 133) (by decide +kernel)
theorem dX3_indent_15 : decode cX3_indent 15 = .ok (.iconst 0, 1) := dc_3 (by decide +kernel)
theorem dX3_indent_16 : decode cX3_indent 16 = .ok (.iconst 0, 1) := dc_3 (by decide +kernel)
theorem dX3_indent_17 : decode cX3_indent 17 = .ok (.iconst 1, 1) := dc_4 (by decide +kernel)
theorem dX3_indent_18 : decode cX3_indent 18 = .ok (.aload_n 0, 1) := dc_42 (by decide +kernel)
theorem dX3_indent_19 : decode cX3_indent 19 = .ok (.getfield 53, 3) := dc_180 (a := 0) (b := 53) (n := 53) (by decide +kernel)
theorem dX3_indent_22 : decode cX3_indent 22 = .ok (.getfield 311, 3) := dc_180 (a := 1) (b := 55) (n := 311) (by decide +kernel)
theorem dX3_indent_25 : decode cX3_indent 25 = .ok (.sipush 527, 3) := dc_17 (a := 2) (b := 15) (v := 527) (by decide +kernel)
theorem dX3_indent_28 : decode cX3_indent 28 = .ok (.iaload, 1) := dc_46 (by decide +kernel)
theorem dX3_indent_29 : decode cX3_indent 29 = .ok (.invokevirtual 314, 3) := dc_182 (a := 1) (b := 58) (n := 314) (by decide +kernel)
theorem dX3_indent_32 : decode cX3_indent 32 = .ok (.iconst 0, 1) := dc_3 (by decide +kernel)
theorem dX3_indent_33 : decode cX3_indent 33 = .ok (.iconst 0, 1) := dc_3 (by decide +kernel)
theorem dX3_indent_34 : decode cX3_indent 34 = .ok (.iconst 0, 1) := dc_3 (by decide +kernel)
theorem dX3_indent_35 : decode cX3_indent 35 = .ok (.iconst 0, 1) := dc_3 (by decide +kernel)
theorem dX3_indent_36 : decode cX3_indent 36 = .ok (.invokevirtual 318, 3) := dc_182 (a := 1) (b := 62) (n := 318) (by decide +kernel)
theorem dX3_indent_39 : decode cX3_indent 39 = .ok (.return_, 1) := dc_177 (by decide +kernel)
theorem GX3_133 {w : eW} {d : Nat} {Y : eY} {pc : Nat} {ls : eL} {st : List Value} {h : eH} {Q : eO → eH → Prop} {a : Nat} {x : Nat} (hf : g_A 2 h a 18 = some x) (hd : decode Y.2.1 pc = .ok (.getfield 133, 3)) (hY : Y.1.cls = RX3) (kk : wp w d Y (pc + 3) ls (.ref x :: st) h Q) : wp w d Y pc ls (.ref a :: st) h Q := x_gA (ci := 2) (k := 18) hf hd rfl (by decide) (by rw [hY]; exact q1810) kk
def fX3_indent (N : Nat) (this : Nat) (h : eH) : Option ((Unit ⊕ Nat) × eH) :=
  (g_A 2 h this 18).bind fun a1 =>
  (p_V 33 h a1 1 (.int (0 : Int32))).bind fun h3 =>
  (g_A 2 h3 this 18).bind fun a5 =>
  (g_A 2 h3 this 6).bind fun a7 =>
  (g_A 8 h3 a7 3).bind fun a9 =>
  (r_I 100 h3 a9 (527 : Int32)).bind fun x11 =>
  (k_ok 2 h3 this).bind fun _ =>
  t_B (fX3_pack N this a5 (0 : Int32) (0 : Int32) (1 : Int32) x11 h3) fun x14 h15 =>
  (k_ok 2 h15 this).bind fun _ =>
  t_B (fX3_put this (4 : Int32) x14 (0 : Int32) (0 : Int32) (0 : Int32) (0 : Int32) h15) fun x17 h18 =>
  some (.inl (), h18)
theorem pX3_indent {w : eW} {d : Nat} (hd : 9 ≤ d) {N : Nat} {this : Nat} {h : eH} {q} (hf : fX3_indent N this h = some q) : wm w d YX3_indent [.ref this] h (e_is (e_rt c_V q)) := by
  obtain ⟨d, rfl⟩ : ∃ e, d = e + 1 := ⟨d - 1, by omega⟩
  show wp w (d + 1) YX3_indent 0 [some (.ref this)] [] h _
  unfold fX3_indent at hf
  refine w_aload_n dX3_indent_0 rfl rfl ?_
  obtain ⟨a1, b2, hf⟩ := Option.bind_eq_some_iff.mp hf
  refine GX3_133 b2 dX3_indent_1 rfl ?_
  refine w_iconst dX3_indent_4 (v := 0) (by decide) ?_
  obtain ⟨h3, b4, hf⟩ := Option.bind_eq_some_iff.mp hf
  refine SX3_210 b4 dX3_indent_5 rfl ?_
  refine w_aload_n dX3_indent_8 rfl rfl ?_
  refine w_iconst dX3_indent_9 (v := 4) (by decide) ?_
  refine w_aload_n dX3_indent_10 rfl rfl ?_
  refine w_aload_n dX3_indent_11 rfl rfl ?_
  obtain ⟨a5, b6, hf⟩ := Option.bind_eq_some_iff.mp hf
  refine GX3_133 b6 dX3_indent_12 rfl ?_
  refine w_iconst dX3_indent_15 (v := 0) (by decide) ?_
  refine w_iconst dX3_indent_16 (v := 0) (by decide) ?_
  refine w_iconst dX3_indent_17 (v := 1) (by decide) ?_
  refine w_aload_n dX3_indent_18 rfl rfl ?_
  obtain ⟨a7, b8, hf⟩ := Option.bind_eq_some_iff.mp hf
  refine GX3_53 b8 dX3_indent_19 rfl ?_
  obtain ⟨a9, b10, hf⟩ := Option.bind_eq_some_iff.mp hf
  refine GX3_311 b10 dX3_indent_22 rfl ?_
  refine w_sipush dX3_indent_25 (v := 527) (by decide) ?_
  obtain ⟨x11, b12, hf⟩ := Option.bind_eq_some_iff.mp hf
  refine x_rI b12 dX3_indent_28 ?_
  obtain ⟨_, b13, hf⟩ := Option.bind_eq_some_iff.mp hf
  refine x_ctI hf (e_stV (Yc := YX3_pack) (ci := 2) (av := [.ref a5, .int (0 : Int32), .int (0 : Int32), .int (1 : Int32), .int x11]) (st := [.int (4 : Int32), .ref this]) dX3_indent_29 q3486 mX3_pack rfl (k_ok_some b13).1 (k_ok_some b13).2) mX3_pack.2.2.1 mX3_pack.2.2.2.2.1 (Nat.le_of_ble_eq_true rfl) (Nat.le_of_ble_eq_true rfl) rfl (fun q hq => pX3_pack (by omega) hq) (fun x14 h15 hf => ?_)
  refine w_iconst dX3_indent_32 (v := 0) (by decide) ?_
  refine w_iconst dX3_indent_33 (v := 0) (by decide) ?_
  refine w_iconst dX3_indent_34 (v := 0) (by decide) ?_
  refine w_iconst dX3_indent_35 (v := 0) (by decide) ?_
  obtain ⟨_, b16, hf⟩ := Option.bind_eq_some_iff.mp hf
  refine x_ctV hf (e_stV (Yc := YX3_put) (ci := 2) (av := [.int (4 : Int32), .int x14, .int (0 : Int32), .int (0 : Int32), .int (0 : Int32), .int (0 : Int32)]) (st := []) dX3_indent_36 q3177 mX3_put rfl (k_ok_some b16).1 (k_ok_some b16).2) mX3_put.2.2.1 mX3_put.2.2.2.2.1 (Nat.le_of_ble_eq_true rfl) (Nat.le_of_ble_eq_true rfl) rfl (fun q hq => pX3_put (by omega) hq) (fun x17 h18 hf => ?_)
  cases hf
  exact w_vret dX3_indent_39 rfl rfl
abbrev cX3_wantHorizontal : ByteArray := prog_26_method_9_code
def yX3_wantHorizontal : MethodName := ⟨RX3, "wantHorizontal", "(Z)Z"⟩
def YX3_wantHorizontal : eY := (yX3_wantHorizontal, cX3_wantHorizontal, 2, (Option.some FieldType.boolean), [])
theorem mX3_wantHorizontal : e_mv YX3_wantHorizontal RX3 1 := ⟨q3188, qs115, q3189, by decide, by decide +kernel, (e_sig (by decide +kernel))⟩
theorem dX3_wantHorizontal_0 : decode cX3_wantHorizontal 0 = .ok (.aload_n 0, 1) := dc_42 (by decide +kernel)
theorem dX3_wantHorizontal_1 : decode cX3_wantHorizontal 1 = .ok (.invokevirtual 298, 3) := dc_182 (a := 1) (b := 42) (n := 298) (by decide +kernel)
theorem dX3_wantHorizontal_4 : decode cX3_wantHorizontal 4 = .ok (.ifCond .ne 5, 3) := dc_154 (a := 0) (b := 5) (v := 5) (by decide +kernel)
theorem dX3_wantHorizontal_7 : decode cX3_wantHorizontal 7 = .ok (.iconst 0, 1) := dc_3 (by decide +kernel)
theorem dX3_wantHorizontal_8 : decode cX3_wantHorizontal 8 = .ok (.ireturn, 1) := dc_172 (by decide +kernel)
theorem dX3_wantHorizontal_9 : decode cX3_wantHorizontal 9 = .ok (.aload_n 0, 1) := dc_42 (by decide +kernel)
theorem dX3_wantHorizontal_10 : decode cX3_wantHorizontal 10 = .ok (.getfield 136, 3) := dc_180 (a := 0) (b := 136) (n := 136) (by decide +kernel)
theorem dX3_wantHorizontal_13 : decode cX3_wantHorizontal 13 = .ok (.aload_n 0, 1) := dc_42 (by decide +kernel)
theorem dX3_wantHorizontal_14 : decode cX3_wantHorizontal 14 = .ok (.getfield 211, 3) := dc_180 (a := 0) (b := 211) (n := 211) (by decide +kernel)
theorem dX3_wantHorizontal_17 : decode cX3_wantHorizontal 17 = .ok (.iaload, 1) := dc_46 (by decide +kernel)
theorem dX3_wantHorizontal_18 : decode cX3_wantHorizontal 18 = .ok (.ifCond .eq 22, 3) := dc_153 (a := 0) (b := 22) (v := 22) (by decide +kernel)
theorem dX3_wantHorizontal_21 : decode cX3_wantHorizontal 21 = .ok (.aload_n 0, 1) := dc_42 (by decide +kernel)
theorem dX3_wantHorizontal_22 : decode cX3_wantHorizontal 22 = .ok (.getfield 126, 3) := dc_180 (a := 0) (b := 126) (n := 126) (by decide +kernel)
theorem dX3_wantHorizontal_25 : decode cX3_wantHorizontal 25 = .ok (.getfield 210, 3) := dc_180 (a := 0) (b := 210) (n := 210) (by decide +kernel)
theorem dX3_wantHorizontal_28 : decode cX3_wantHorizontal 28 = .ok (.aload_n 0, 1) := dc_42 (by decide +kernel)
theorem dX3_wantHorizontal_29 : decode cX3_wantHorizontal 29 = .ok (.getfield 140, 3) := dc_180 (a := 0) (b := 140) (n := 140) (by decide +kernel)
theorem dX3_wantHorizontal_32 : decode cX3_wantHorizontal 32 = .ok (.aload_n 0, 1) := dc_42 (by decide +kernel)
theorem dX3_wantHorizontal_33 : decode cX3_wantHorizontal 33 = .ok (.getfield 211, 3) := dc_180 (a := 0) (b := 211) (n := 211) (by decide +kernel)
theorem dX3_wantHorizontal_36 : decode cX3_wantHorizontal 36 = .ok (.iaload, 1) := dc_46 (by decide +kernel)
theorem dX3_wantHorizontal_37 : decode cX3_wantHorizontal 37 = .ok (.if_icmp .le 10, 3) := dc_164 (a := 0) (b := 10) (v := 10) (by decide +kernel)
theorem dX3_wantHorizontal_40 : decode cX3_wantHorizontal 40 = .ok (.aload_n 0, 1) := dc_42 (by decide +kernel)
theorem dX3_wantHorizontal_41 : decode cX3_wantHorizontal 41 = .ok (.sipush 1555, 3) := dc_17 (a := 6) (b := 19) (v := 1555) (by decide +kernel)
theorem dX3_wantHorizontal_44 : decode cX3_wantHorizontal 44 = .ok (.invokevirtual 302, 3) := dc_182 (a := 1) (b := 46) (n := 302) (by decide +kernel)
theorem dX3_wantHorizontal_47 : decode cX3_wantHorizontal 47 = .ok (.aload_n 0, 1) := dc_42 (by decide +kernel)
theorem dX3_wantHorizontal_48 : decode cX3_wantHorizontal 48 = .ok (.iconst 2, 1) := dc_5 (by decide +kernel)
theorem dX3_wantHorizontal_49 : decode cX3_wantHorizontal 49 = .ok (.invokevirtual 305, 3) := dc_182 (a := 1) (b := 49) (n := 305) (by decide +kernel)
theorem dX3_wantHorizontal_52 : decode cX3_wantHorizontal 52 = .ok (.iload_n 1, 1) := dc_27 (by decide +kernel)
theorem dX3_wantHorizontal_53 : decode cX3_wantHorizontal 53 = .ok (.ifCond .eq 7, 3) := dc_153 (a := 0) (b := 7) (v := 7) (by decide +kernel)
theorem dX3_wantHorizontal_56 : decode cX3_wantHorizontal 56 = .ok (.aload_n 0, 1) := dc_42 (by decide +kernel)
theorem dX3_wantHorizontal_57 : decode cX3_wantHorizontal 57 = .ok (.invokevirtual 308, 3) := dc_182 (a := 1) (b := 52) (n := 308) (by decide +kernel)
theorem dX3_wantHorizontal_60 : decode cX3_wantHorizontal 60 = .ok (.iconst 1, 1) := dc_4 (by decide +kernel)
theorem dX3_wantHorizontal_61 : decode cX3_wantHorizontal 61 = .ok (.ireturn, 1) := dc_172 (by decide +kernel)
def fX3_wantHorizontal_b60 (N : Nat)  (h : eH) : Option ((Int32 ⊕ Nat) × eH) :=
  some (.inl (1 : Int32), h)
theorem pX3_wantHorizontal_b60 {w : eW} {d : Nat} (hd : 13 ≤ d + 1) {N : Nat}  {h : eH} {q} (hf : fX3_wantHorizontal_b60 N h = some q) : wp w (d + 1) YX3_wantHorizontal 60 [none, none] [] h (e_is (e_rt c_I q)) := by
  unfold fX3_wantHorizontal_b60 at hf
  refine w_iconst dX3_wantHorizontal_60 (v := 1) (by decide) ?_
  cases hf
  exact w_iret dX3_wantHorizontal_61 rfl rfl rfl
def fX3_wantHorizontal_b47 (N : Nat) (l0 : Nat) (l1 : Int32) (h : eH) : Option ((Int32 ⊕ Nat) × eH) :=
  (k_ok 2 h l0).bind fun _ =>
  (fX3_push l0 (2 : Int32) h).bind fun q2 =>
  if l1 = 0 then
    fX3_wantHorizontal_b60 N q2.2
  else
    (k_ok 2 q2.2 l0).bind fun _ =>
    t_B (fX3_indent N l0 q2.2) fun x5 h6 =>
    fX3_wantHorizontal_b60 N h6
theorem pX3_wantHorizontal_b47 {w : eW} {d : Nat} (hd : 13 ≤ d + 1) {N : Nat} {l0 : Nat} {l1 : Int32} {h : eH} {q} (hf : fX3_wantHorizontal_b47 N l0 l1 h = some q) : wp w (d + 1) YX3_wantHorizontal 47 [some (.ref l0), some (.int l1)] [] h (e_is (e_rt c_I q)) := by
  unfold fX3_wantHorizontal_b47 at hf
  refine w_aload_n dX3_wantHorizontal_47 rfl rfl ?_
  refine w_iconst dX3_wantHorizontal_48 (v := 2) (by decide) ?_
  obtain ⟨_, b1, hf⟩ := Option.bind_eq_some_iff.mp hf
  refine x_cnV hf (e_stV (Yc := YX3_push) (ci := 2) (av := [.int (2 : Int32)]) (st := []) dX3_wantHorizontal_49 q3478 mX3_push rfl (k_ok_some b1).1 (k_ok_some b1).2) mX3_push.2.2.1 mX3_push.2.2.2.2.1 (Nat.le_of_ble_eq_true rfl) (Nat.le_of_ble_eq_true rfl) (fun q hq => pX3_push (by omega) hq) (fun q2 hf => ?_)
  refine w_iload_n dX3_wantHorizontal_52 rfl rfl ?_
  refine w_if_eq 60 dX3_wantHorizontal_53 (by decide) (fun c3 => ?_) (fun c3 => ?_)
  · replace hf := (if_pos (show l1 = 0 from c3)).symm.trans hf
    exact (pX3_wantHorizontal_b60 hd hf).to trivial
  · replace hf := (if_neg (show ¬ (l1 = 0) from c3)).symm.trans hf
    refine w_aload_n dX3_wantHorizontal_56 rfl rfl ?_
    obtain ⟨_, b4, hf⟩ := Option.bind_eq_some_iff.mp hf
    refine x_ctV hf (e_stV (Yc := YX3_indent) (ci := 2) (av := []) (st := []) dX3_wantHorizontal_57 q3482 mX3_indent rfl (k_ok_some b4).1 (k_ok_some b4).2) mX3_indent.2.2.1 mX3_indent.2.2.2.2.1 (Nat.le_of_ble_eq_true rfl) (Nat.le_of_ble_eq_true rfl) rfl (fun q hq => pX3_indent (by omega) hq) (fun x5 h6 hf => ?_)
    exact (pX3_wantHorizontal_b60 hd hf).to trivial
def fX3_wantHorizontal_b40 (N : Nat) (l0 : Nat) (l1 : Int32) (h : eH) : Option ((Int32 ⊕ Nat) × eH) :=
  (k_ok 2 h l0).bind fun _ =>
  t_B (fX3_addGlue N l0 (1555 : Int32) h) fun x2 h3 =>
  fX3_wantHorizontal_b47 N l0 l1 h3
theorem pX3_wantHorizontal_b40 {w : eW} {d : Nat} (hd : 13 ≤ d + 1) {N : Nat} {l0 : Nat} {l1 : Int32} {h : eH} {q} (hf : fX3_wantHorizontal_b40 N l0 l1 h = some q) : wp w (d + 1) YX3_wantHorizontal 40 [some (.ref l0), some (.int l1)] [] h (e_is (e_rt c_I q)) := by
  unfold fX3_wantHorizontal_b40 at hf
  refine w_aload_n dX3_wantHorizontal_40 rfl rfl ?_
  refine w_sipush dX3_wantHorizontal_41 (v := 1555) (by decide) ?_
  obtain ⟨_, b1, hf⟩ := Option.bind_eq_some_iff.mp hf
  refine x_ctV hf (e_stV (Yc := YX3_addGlue) (ci := 2) (av := [.int (1555 : Int32)]) (st := []) dX3_wantHorizontal_44 q3194 mX3_addGlue rfl (k_ok_some b1).1 (k_ok_some b1).2) mX3_addGlue.2.2.1 mX3_addGlue.2.2.2.2.1 (Nat.le_of_ble_eq_true rfl) (Nat.le_of_ble_eq_true rfl) rfl (fun q hq => pX3_addGlue (by omega) hq) (fun x2 h3 hf => ?_)
  exact (pX3_wantHorizontal_b47 hd hf).to ⟨rfl, rfl, trivial⟩
def fX3_wantHorizontal (N : Nat) (this : Nat) (p0 : Int32) (h : eH) : Option ((Int32 ⊕ Nat) × eH) :=
  (k_ok 2 h this).bind fun _ =>
  (fX3_isVertical this h).bind fun q2 =>
  if ¬ q2.1 = 0 then
    (g_A 2 q2.2 this 19).bind fun a4 =>
    (g_I 2 q2.2 this 27).bind fun x6 =>
    (r_I 100 q2.2 a4 x6).bind fun x8 =>
    if x8 = 0 then
      fX3_wantHorizontal_b40 N this p0 q2.2
    else
      (g_A 2 q2.2 this 16).bind fun a11 =>
      (g_I 33 q2.2 a11 1).bind fun x13 =>
      (g_A 2 q2.2 this 20).bind fun a15 =>
      (g_I 2 q2.2 this 27).bind fun x17 =>
      (r_I 100 q2.2 a15 x17).bind fun x19 =>
      if x13 ≤ x19 then
        fX3_wantHorizontal_b47 N this p0 q2.2
      else
        fX3_wantHorizontal_b40 N this p0 q2.2
  else
    some (.inl (0 : Int32), q2.2)
theorem pX3_wantHorizontal {w : eW} {d : Nat} (hd : 13 ≤ d) {N : Nat} {this : Nat} {p0 : Int32} {h : eH} {q} (hf : fX3_wantHorizontal N this p0 h = some q) : wm w d YX3_wantHorizontal [.ref this, .int p0] h (e_is (e_rt c_I q)) := by
  obtain ⟨d, rfl⟩ : ∃ e, d = e + 1 := ⟨d - 1, by omega⟩
  show wp w (d + 1) YX3_wantHorizontal 0 [some (.ref this), some (.int p0)] [] h _
  unfold fX3_wantHorizontal at hf
  refine w_aload_n dX3_wantHorizontal_0 rfl rfl ?_
  obtain ⟨_, b1, hf⟩ := Option.bind_eq_some_iff.mp hf
  refine x_cnI hf (e_stV (Yc := YX3_isVertical) (ci := 2) (av := []) (st := []) dX3_wantHorizontal_1 q3190 mX3_isVertical rfl (k_ok_some b1).1 (k_ok_some b1).2) mX3_isVertical.2.2.1 mX3_isVertical.2.2.2.2.1 (Nat.le_of_ble_eq_true rfl) (Nat.le_of_ble_eq_true rfl) (fun q hq => pX3_isVertical (by omega) hq) (fun q2 hf => ?_)
  refine w_if_ne 9 dX3_wantHorizontal_4 (by decide) (fun c3 => ?_) (fun c3 => ?_)
  · replace hf := (if_pos (show ¬ q2.1 = 0 from c3)).symm.trans hf
    refine w_aload_n dX3_wantHorizontal_9 rfl rfl ?_
    obtain ⟨a4, b5, hf⟩ := Option.bind_eq_some_iff.mp hf
    refine GX3_136 b5 dX3_wantHorizontal_10 rfl ?_
    refine w_aload_n dX3_wantHorizontal_13 rfl rfl ?_
    obtain ⟨x6, b7, hf⟩ := Option.bind_eq_some_iff.mp hf
    refine GX3_211 b7 dX3_wantHorizontal_14 rfl ?_
    obtain ⟨x8, b9, hf⟩ := Option.bind_eq_some_iff.mp hf
    refine x_rI b9 dX3_wantHorizontal_17 ?_
    refine w_if_eq 40 dX3_wantHorizontal_18 (by decide) (fun c10 => ?_) (fun c10 => ?_)
    · replace hf := (if_pos (show x8 = 0 from c10)).symm.trans hf
      exact (pX3_wantHorizontal_b40 hd hf).to ⟨rfl, rfl, trivial⟩
    · replace hf := (if_neg (show ¬ (x8 = 0) from c10)).symm.trans hf
      refine w_aload_n dX3_wantHorizontal_21 rfl rfl ?_
      obtain ⟨a11, b12, hf⟩ := Option.bind_eq_some_iff.mp hf
      refine GX3_126 b12 dX3_wantHorizontal_22 rfl ?_
      obtain ⟨x13, b14, hf⟩ := Option.bind_eq_some_iff.mp hf
      refine GX3_210 b14 dX3_wantHorizontal_25 rfl ?_
      refine w_aload_n dX3_wantHorizontal_28 rfl rfl ?_
      obtain ⟨a15, b16, hf⟩ := Option.bind_eq_some_iff.mp hf
      refine GX3_140 b16 dX3_wantHorizontal_29 rfl ?_
      refine w_aload_n dX3_wantHorizontal_32 rfl rfl ?_
      obtain ⟨x17, b18, hf⟩ := Option.bind_eq_some_iff.mp hf
      refine GX3_211 b18 dX3_wantHorizontal_33 rfl ?_
      obtain ⟨x19, b20, hf⟩ := Option.bind_eq_some_iff.mp hf
      refine x_rI b20 dX3_wantHorizontal_36 ?_
      refine w_icmp_le 47 dX3_wantHorizontal_37 (by decide) (fun c21 => ?_) (fun c21 => ?_)
      · replace hf := (if_pos (show x13 ≤ x19 from c21)).symm.trans hf
        exact (pX3_wantHorizontal_b47 hd hf).to ⟨rfl, rfl, trivial⟩
      · replace hf := (if_neg (show ¬ (x13 ≤ x19) from c21)).symm.trans hf
        exact (pX3_wantHorizontal_b40 hd hf).to ⟨rfl, rfl, trivial⟩
  · replace hf := (if_neg (show ¬ (¬ q2.1 = 0) from (fun z => z c3))).symm.trans hf
    refine w_iconst dX3_wantHorizontal_7 (v := 0) (by decide) ?_
    cases hf
    exact w_iret dX3_wantHorizontal_8 rfl rfl rfl
abbrev cX3_character : ByteArray := prog_26_method_23_code
def yX3_character : MethodName := ⟨RX3, "character", "(I)V"⟩
def YX3_character : eY := (yX3_character, cX3_character, 4, none, [])
theorem mX3_character : e_mv YX3_character RX3 1 := ⟨q3184, qs114, q3185, by decide, by decide +kernel, (e_sig (by decide +kernel))⟩
theorem dX3_character_0 : decode cX3_character 0 = .ok (.aload_n 0, 1) := dc_42 (by decide +kernel)
theorem dX3_character_1 : decode cX3_character 1 = .ok (.iconst 1, 1) := dc_4 (by decide +kernel)
theorem dX3_character_2 : decode cX3_character 2 = .ok (.invokevirtual 444, 3) := dc_182 (a := 1) (b := 188) (n := 444) (by decide +kernel)
theorem dX3_character_5 : decode cX3_character 5 = .ok (.istore_n 2, 1) := dc_61 (by decide +kernel)
theorem dX3_character_6 : decode cX3_character 6 = .ok (.aload_n 0, 1) := dc_42 (by decide +kernel)
theorem dX3_character_7 : decode cX3_character 7 = .ok (.getfield 53, 3) := dc_180 (a := 0) (b := 53) (n := 53) (by decide +kernel)
theorem dX3_character_10 : decode cX3_character 10 = .ok (.getfield 311, 3) := dc_180 (a := 1) (b := 55) (n := 311) (by decide +kernel)
theorem dX3_character_13 : decode cX3_character 13 = .ok (.sipush 2095, 3) := dc_17 (a := 8) (b := 47) (v := 2095) (by decide +kernel)
theorem dX3_character_16 : decode cX3_character 16 = .ok (.iaload, 1) := dc_46 (by decide +kernel)
theorem dX3_character_17 : decode cX3_character 17 = .ok (.istore_n 3, 1) := dc_62 (by decide +kernel)
theorem dX3_character_18 : decode cX3_character 18 = .ok (.aload_n 0, 1) := dc_42 (by decide +kernel)
theorem dX3_character_19 : decode cX3_character 19 = .ok (.getfield 14, 3) := dc_180 (a := 0) (b := 14) (n := 14) (by decide +kernel)
theorem dX3_character_22 : decode cX3_character 22 = .ok (.iload_n 3, 1) := dc_29 (by decide +kernel)
theorem dX3_character_23 : decode cX3_character 23 = .ok (.iconst (-1), 1) := dc_2 (by decide +kernel)
theorem dX3_character_24 : decode cX3_character 24 = .ok (.if_icmp .eq 23, 3) := dc_159 (a := 0) (b := 23) (v := 23) (by decide +kernel)
theorem dX3_character_27 : decode cX3_character 27 = .ok (.aload_n 0, 1) := dc_42 (by decide +kernel)
theorem dX3_character_28 : decode cX3_character 28 = .ok (.getfield 23, 3) := dc_180 (a := 0) (b := 23) (n := 23) (by decide +kernel)
theorem dX3_character_31 : decode cX3_character 31 = .ok (.getfield 448, 3) := dc_180 (a := 1) (b := 192) (n := 448) (by decide +kernel)
theorem dX3_character_34 : decode cX3_character 34 = .ok (.iload_n 3, 1) := dc_29 (by decide +kernel)
theorem dX3_character_35 : decode cX3_character 35 = .ok (.aaload, 1) := dc_50 (by decide +kernel)
theorem dX3_character_36 : decode cX3_character 36 = .ok (.iload_n 1, 1) := dc_27 (by decide +kernel)
theorem dX3_character_37 : decode cX3_character 37 = .ok (.invokevirtual 451, 3) := dc_182 (a := 1) (b := 195) (n := 451) (by decide +kernel)
theorem dX3_character_40 : decode cX3_character 40 = .ok (.ifCond .eq 7, 3) := dc_153 (a := 0) (b := 7) (v := 7) (by decide +kernel)
theorem dX3_character_43 : decode cX3_character 43 = .ok (.iconst 1, 1) := dc_4 (by decide +kernel)
theorem dX3_character_44 : decode cX3_character 44 = .ok (.goto 4, 3) := dc_167 (a := 0) (b := 4) (v := 4) (by decide +kernel)
theorem dX3_character_47 : decode cX3_character 47 = .ok (.iconst 0, 1) := dc_3 (by decide +kernel)
theorem dX3_character_48 : decode cX3_character 48 = .ok (.bipush 14, 2) := dc_16 (a := 14) (v := 14) (by decide +kernel)
theorem dX3_character_50 : decode cX3_character 50 = .ok (.invokevirtual 289, 3) := dc_182 (a := 1) (b := 33) (n := 289) (by decide +kernel)
theorem dX3_character_53 : decode cX3_character 53 = .ok (.aload_n 0, 1) := dc_42 (by decide +kernel)
theorem dX3_character_54 : decode cX3_character 54 = .ok (.getfield 219, 3) := dc_180 (a := 0) (b := 219) (n := 219) (by decide +kernel)
theorem dX3_character_57 : decode cX3_character 57 = .ok (.ifCond .le 15, 3) := dc_158 (a := 0) (b := 15) (v := 15) (by decide +kernel)
theorem dX3_character_60 : decode cX3_character 60 = .ok (.aload_n 0, 1) := dc_42 (by decide +kernel)
theorem dX3_character_61 : decode cX3_character 61 = .ok (.getfield 457, 3) := dc_180 (a := 1) (b := 201) (n := 457) (by decide +kernel)
theorem dX3_character_64 : decode cX3_character 64 = .ok (.iload_n 3, 1) := dc_29 (by decide +kernel)
theorem dX3_character_65 : decode cX3_character 65 = .ok (.if_icmp .eq 7, 3) := dc_159 (a := 0) (b := 7) (v := 7) (by decide +kernel)
theorem dX3_character_68 : decode cX3_character 68 = .ok (.aload_n 0, 1) := dc_42 (by decide +kernel)
theorem dX3_character_69 : decode cX3_character 69 = .ok (.invokevirtual 280, 3) := dc_182 (a := 1) (b := 24) (n := 280) (by decide +kernel)
theorem dX3_character_72 : decode cX3_character 72 = .ok (.aload_n 0, 1) := dc_42 (by decide +kernel)
theorem dX3_character_73 : decode cX3_character 73 = .ok (.iload_n 3, 1) := dc_29 (by decide +kernel)
theorem dX3_character_74 : decode cX3_character 74 = .ok (.putfield 457, 3) := dc_181 (a := 1) (b := 201) (n := 457) (by decide +kernel)
theorem dX3_character_77 : decode cX3_character 77 = .ok (.aload_n 0, 1) := dc_42 (by decide +kernel)
theorem dX3_character_78 : decode cX3_character 78 = .ok (.getfield 162, 3) := dc_180 (a := 0) (b := 162) (n := 162) (by decide +kernel)
theorem dX3_character_81 : decode cX3_character 81 = .ok (.aload_n 0, 1) := dc_42 (by decide +kernel)
theorem dX3_character_82 : decode cX3_character 82 = .ok (.dup, 1) := dc_89 (by decide +kernel)
theorem dX3_character_83 : decode cX3_character 83 = .ok (.getfield 219, 3) := dc_180 (a := 0) (b := 219) (n := 219) (by decide +kernel)
theorem dX3_character_86 : decode cX3_character 86 = .ok (.dup_x1, 1) := dc_90 (by decide +kernel)
theorem dX3_character_87 : decode cX3_character 87 = .ok (.iconst 1, 1) := dc_4 (by decide +kernel)
theorem dX3_character_88 : decode cX3_character 88 = .ok (.iadd, 1) := dc_96 (by decide +kernel)
theorem dX3_character_89 : decode cX3_character 89 = .ok (.putfield 219, 3) := dc_181 (a := 0) (b := 219) (n := 219) (by decide +kernel)
theorem dX3_character_92 : decode cX3_character 92 = .ok (.iload_n 1, 1) := dc_27 (by decide +kernel)
theorem dX3_character_93 : decode cX3_character 93 = .ok (.i2b, 1) := dc_145 (by decide +kernel)
theorem dX3_character_94 : decode cX3_character 94 = .ok (.bastore, 1) := dc_84 (by decide +kernel)
theorem dX3_character_95 : decode cX3_character 95 = .ok (.iload_n 1, 1) := dc_27 (by decide +kernel)
theorem dX3_character_96 : decode cX3_character 96 = .ok (.bipush 45, 2) := dc_16 (a := 45) (v := 45) (by decide +kernel)
theorem dX3_character_98 : decode cX3_character 98 = .ok (.if_icmp .eq 12, 3) := dc_159 (a := 0) (b := 12) (v := 12) (by decide +kernel)
theorem dX3_character_101 : decode cX3_character 101 = .ok (.aload_n 0, 1) := dc_42 (by decide +kernel)
theorem dX3_character_102 : decode cX3_character 102 = .ok (.getfield 219, 3) := dc_180 (a := 0) (b := 219) (n := 219) (by decide +kernel)
theorem dX3_character_105 : decode cX3_character 105 = .ok (.bipush 64, 2) := dc_16 (a := 64) (v := 64) (by decide +kernel)
theorem dX3_character_107 : decode cX3_character 107 = .ok (.if_icmp .ne 7, 3) := dc_160 (a := 0) (b := 7) (v := 7) (by decide +kernel)
theorem dX3_character_110 : decode cX3_character 110 = .ok (.aload_n 0, 1) := dc_42 (by decide +kernel)
theorem dX3_character_111 : decode cX3_character 111 = .ok (.invokevirtual 280, 3) := dc_182 (a := 1) (b := 24) (n := 280) (by decide +kernel)
theorem dX3_character_114 : decode cX3_character 114 = .ok (.return_, 1) := dc_177 (by decide +kernel)
theorem SX3_457 {w : eW} {d : Nat} {Y : eY} {pc : Nat} {ls : eL} {st : List Value} {h : eH} {Q : eO → eH → Prop} {a : Nat} {h' : eH} {x : Int32} (hf : p_V 2 h a 31 (.int x) = some h') (hd : decode Y.2.1 pc = .ok (.putfield 457, 3)) (hY : Y.1.cls = RX3) (kk : wp w d Y (pc + 3) ls st h' Q) : wp w d Y pc ls (.int x :: .ref a :: st) h Q := x_pI (ci := 2) (k := 31) hf hd rfl (by decide) (by rw [hY]; exact q1823) rfl rfl kk
def fX3_character_b114 (N : Nat)  (h : eH) : Option ((Unit ⊕ Nat) × eH) :=
  some (.inl (), h)
theorem pX3_character_b114 {w : eW} {d : Nat} (hd : 14 ≤ d + 1) {N : Nat}  {h : eH} {q} (hf : fX3_character_b114 N h = some q) : wp w (d + 1) YX3_character 114 [none, none, none, none] [] h (e_is (e_rt c_V q)) := by
  unfold fX3_character_b114 at hf
  cases hf
  exact w_vret dX3_character_114 rfl rfl
def fX3_character_b110 (N : Nat) (l0 : Nat) (h : eH) : Option ((Unit ⊕ Nat) × eH) :=
  (k_ok 2 h l0).bind fun _ =>
  t_B (fX3_endWord N l0 h) fun x2 h3 =>
  fX3_character_b114 N h3
theorem pX3_character_b110 {w : eW} {d : Nat} (hd : 14 ≤ d + 1) {N : Nat} {l0 : Nat} {h : eH} {q} (hf : fX3_character_b110 N l0 h = some q) : wp w (d + 1) YX3_character 110 [some (.ref l0), none, none, none] [] h (e_is (e_rt c_V q)) := by
  unfold fX3_character_b110 at hf
  refine w_aload_n dX3_character_110 rfl rfl ?_
  obtain ⟨_, b1, hf⟩ := Option.bind_eq_some_iff.mp hf
  refine x_ctV hf (e_stV (Yc := YX3_endWord) (ci := 2) (av := []) (st := []) dX3_character_111 q2792 mX3_endWord rfl (k_ok_some b1).1 (k_ok_some b1).2) mX3_endWord.2.2.1 mX3_endWord.2.2.2.2.1 (Nat.le_of_ble_eq_true rfl) (Nat.le_of_ble_eq_true rfl) rfl (fun q hq => pX3_endWord (by omega) hq) (fun x2 h3 hf => ?_)
  exact (pX3_character_b114 hd hf).to trivial
def fX3_character_b72 (N : Nat) (l0 : Nat) (l1 : Int32) (l3 : Int32) (h : eH) : Option ((Unit ⊕ Nat) × eH) :=
  (p_V 2 h l0 31 (.int l3)).bind fun h1 =>
  (g_A 2 h1 l0 28).bind fun a3 =>
  (g_I 2 h1 l0 30).bind fun x5 =>
  (p_V 2 h1 l0 30 (.int (x5 + (1 : Int32)))).bind fun h7 =>
  (q_V 102 h7 a3 x5 (.int ((l1).toInt8.toInt32).toInt8.toInt32)).bind fun h9 =>
  if l1 = (45 : Int32) then
    fX3_character_b110 N l0 h9
  else
    (g_I 2 h9 l0 30).bind fun x12 =>
    if ¬ x12 = (64 : Int32) then
      fX3_character_b114 N h9
    else
      fX3_character_b110 N l0 h9
theorem pX3_character_b72 {w : eW} {d : Nat} (hd : 14 ≤ d + 1) {N : Nat} {l0 : Nat} {l1 : Int32} {l3 : Int32} {h : eH} {q} (hf : fX3_character_b72 N l0 l1 l3 h = some q) : wp w (d + 1) YX3_character 72 [some (.ref l0), some (.int l1), none, some (.int l3)] [] h (e_is (e_rt c_V q)) := by
  unfold fX3_character_b72 at hf
  refine w_aload_n dX3_character_72 rfl rfl ?_
  refine w_iload_n dX3_character_73 rfl rfl ?_
  obtain ⟨h1, b2, hf⟩ := Option.bind_eq_some_iff.mp hf
  refine SX3_457 b2 dX3_character_74 rfl ?_
  refine w_aload_n dX3_character_77 rfl rfl ?_
  obtain ⟨a3, b4, hf⟩ := Option.bind_eq_some_iff.mp hf
  refine GX3_162 b4 dX3_character_78 rfl ?_
  refine w_aload_n dX3_character_81 rfl rfl ?_
  refine w_dup dX3_character_82 rfl ?_
  obtain ⟨x5, b6, hf⟩ := Option.bind_eq_some_iff.mp hf
  refine GX3_219 b6 dX3_character_83 rfl ?_
  refine w_dup_x1 dX3_character_86 rfl rfl ?_
  refine w_iconst dX3_character_87 (v := 1) (by decide) ?_
  refine w_iadd dX3_character_88 ?_
  obtain ⟨h7, b8, hf⟩ := Option.bind_eq_some_iff.mp hf
  refine SX3_219 b8 dX3_character_89 rfl ?_
  refine w_iload_n dX3_character_92 rfl rfl ?_
  refine w_i2b dX3_character_93 ?_
  obtain ⟨h9, b10, hf⟩ := Option.bind_eq_some_iff.mp hf
  refine x_qB b10 dX3_character_94 ?_
  refine w_iload_n dX3_character_95 rfl rfl ?_
  refine w_bipush dX3_character_96 (v := 45) (by decide) ?_
  refine w_icmp_eq 110 dX3_character_98 (by decide) (fun c11 => ?_) (fun c11 => ?_)
  · replace hf := (if_pos (show l1 = (45 : Int32) from c11)).symm.trans hf
    exact (pX3_character_b110 hd hf).to ⟨rfl, trivial⟩
  · replace hf := (if_neg (show ¬ (l1 = (45 : Int32)) from c11)).symm.trans hf
    refine w_aload_n dX3_character_101 rfl rfl ?_
    obtain ⟨x12, b13, hf⟩ := Option.bind_eq_some_iff.mp hf
    refine GX3_219 b13 dX3_character_102 rfl ?_
    refine w_bipush dX3_character_105 (v := 64) (by decide) ?_
    refine w_icmp_ne 114 dX3_character_107 (by decide) (fun c14 => ?_) (fun c14 => ?_)
    · replace hf := (if_pos (show ¬ x12 = (64 : Int32) from c14)).symm.trans hf
      exact (pX3_character_b114 hd hf).to trivial
    · replace hf := (if_neg (show ¬ (¬ x12 = (64 : Int32)) from (fun z => z c14))).symm.trans hf
      exact (pX3_character_b110 hd hf).to ⟨rfl, trivial⟩
def fX3_character_b48 (N : Nat) (l0 : Nat) (l1 : Int32) (l3 : Int32) (s0 : Nat) (s1 : Int32) (h : eH) : Option ((Unit ⊕ Nat) × eH) :=
  (k_ok 3 h s0).bind fun _ =>
  t_B (fX4_want s0 s1 (14 : Int32) h) fun x2 h3 =>
  (g_I 2 h3 l0 30).bind fun x4 =>
  if x4 ≤ 0 then
    fX3_character_b72 N l0 l1 l3 h3
  else
    (g_I 2 h3 l0 31).bind fun x7 =>
    if x7 = l3 then
      fX3_character_b72 N l0 l1 l3 h3
    else
      (k_ok 2 h3 l0).bind fun _ =>
      t_B (fX3_endWord N l0 h3) fun x11 h12 =>
      fX3_character_b72 N l0 l1 l3 h12
theorem pX3_character_b48 {w : eW} {d : Nat} (hd : 14 ≤ d + 1) {N : Nat} {l0 : Nat} {l1 : Int32} {l3 : Int32} {s0 : Nat} {s1 : Int32} {h : eH} {q} (hf : fX3_character_b48 N l0 l1 l3 s0 s1 h = some q) : wp w (d + 1) YX3_character 48 [some (.ref l0), some (.int l1), none, some (.int l3)] [.int s1, .ref s0] h (e_is (e_rt c_V q)) := by
  unfold fX3_character_b48 at hf
  refine w_bipush dX3_character_48 (v := 14) (by decide) ?_
  obtain ⟨_, b1, hf⟩ := Option.bind_eq_some_iff.mp hf
  refine x_ctV hf (e_stV (Yc := YX4_want) (ci := 3) (av := [.int s1, .int (14 : Int32)]) (st := []) dX3_character_50 q2846 mX4_want rfl (k_ok_some b1).1 (k_ok_some b1).2) mX4_want.2.2.1 mX4_want.2.2.2.2.1 (Nat.le_of_ble_eq_true rfl) (Nat.le_of_ble_eq_true rfl) rfl (fun q hq => pX4_want (by omega) hq) (fun x2 h3 hf => ?_)
  refine w_aload_n dX3_character_53 rfl rfl ?_
  obtain ⟨x4, b5, hf⟩ := Option.bind_eq_some_iff.mp hf
  refine GX3_219 b5 dX3_character_54 rfl ?_
  refine w_if_le 72 dX3_character_57 (by decide) (fun c6 => ?_) (fun c6 => ?_)
  · replace hf := (if_pos (show x4 ≤ 0 from c6)).symm.trans hf
    exact (pX3_character_b72 hd hf).to ⟨rfl, rfl, rfl, trivial⟩
  · replace hf := (if_neg (show ¬ (x4 ≤ 0) from c6)).symm.trans hf
    refine w_aload_n dX3_character_60 rfl rfl ?_
    obtain ⟨x7, b8, hf⟩ := Option.bind_eq_some_iff.mp hf
    refine GX3_457 b8 dX3_character_61 rfl ?_
    refine w_iload_n dX3_character_64 rfl rfl ?_
    refine w_icmp_eq 72 dX3_character_65 (by decide) (fun c9 => ?_) (fun c9 => ?_)
    · replace hf := (if_pos (show x7 = l3 from c9)).symm.trans hf
      exact (pX3_character_b72 hd hf).to ⟨rfl, rfl, rfl, trivial⟩
    · replace hf := (if_neg (show ¬ (x7 = l3) from c9)).symm.trans hf
      refine w_aload_n dX3_character_68 rfl rfl ?_
      obtain ⟨_, b10, hf⟩ := Option.bind_eq_some_iff.mp hf
      refine x_ctV hf (e_stV (Yc := YX3_endWord) (ci := 2) (av := []) (st := []) dX3_character_69 q2792 mX3_endWord rfl (k_ok_some b10).1 (k_ok_some b10).2) mX3_endWord.2.2.1 mX3_endWord.2.2.2.2.1 (Nat.le_of_ble_eq_true rfl) (Nat.le_of_ble_eq_true rfl) rfl (fun q hq => pX3_endWord (by omega) hq) (fun x11 h12 hf => ?_)
      exact (pX3_character_b72 hd hf).to ⟨rfl, rfl, rfl, trivial⟩
def fX3_character_b47 (N : Nat) (l0 : Nat) (l1 : Int32) (l3 : Int32) (s0 : Nat) (h : eH) : Option ((Unit ⊕ Nat) × eH) :=
  fX3_character_b48 N l0 l1 l3 s0 (0 : Int32) h
theorem pX3_character_b47 {w : eW} {d : Nat} (hd : 14 ≤ d + 1) {N : Nat} {l0 : Nat} {l1 : Int32} {l3 : Int32} {s0 : Nat} {h : eH} {q} (hf : fX3_character_b47 N l0 l1 l3 s0 h = some q) : wp w (d + 1) YX3_character 47 [some (.ref l0), some (.int l1), none, some (.int l3)] [.ref s0] h (e_is (e_rt c_V q)) := by
  unfold fX3_character_b47 at hf
  refine w_iconst dX3_character_47 (v := 0) (by decide) ?_
  exact (pX3_character_b48 hd hf).to ⟨rfl, rfl, rfl, trivial⟩
def fX3_character (N : Nat) (this : Nat) (p0 : Int32) (h : eH) : Option ((Unit ⊕ Nat) × eH) :=
  (k_ok 2 h this).bind fun _ =>
  t_B (fX3_wantHorizontal N this (1 : Int32) h) fun x2 h3 =>
  (g_A 2 h3 this 6).bind fun a4 =>
  (g_A 8 h3 a4 3).bind fun a6 =>
  (r_I 100 h3 a6 (2095 : Int32)).bind fun x8 =>
  (g_A 2 h3 this 0).bind fun a10 =>
  if x8 = (-1 : Int32) then
    fX3_character_b47 N this p0 x8 a10 h3
  else
    (g_A 2 h3 this 1).bind fun a13 =>
    (g_A 4 h3 a13 1).bind fun a15 =>
    (r_A 105 h3 a15 x8).bind fun a17 =>
    (k_ok 5 h3 a17).bind fun _ =>
    (fX6_has a17 p0 h3).bind fun q20 =>
    if q20.1 = 0 then
      fX3_character_b47 N this p0 x8 a10 q20.2
    else
      fX3_character_b48 N this p0 x8 a10 (1 : Int32) q20.2
theorem pX3_character {w : eW} {d : Nat} (hd : 14 ≤ d) {N : Nat} {this : Nat} {p0 : Int32} {h : eH} {q} (hf : fX3_character N this p0 h = some q) : wm w d YX3_character [.ref this, .int p0] h (e_is (e_rt c_V q)) := by
  obtain ⟨d, rfl⟩ : ∃ e, d = e + 1 := ⟨d - 1, by omega⟩
  show wp w (d + 1) YX3_character 0 [some (.ref this), some (.int p0), none, none] [] h _
  unfold fX3_character at hf
  refine w_aload_n dX3_character_0 rfl rfl ?_
  refine w_iconst dX3_character_1 (v := 1) (by decide) ?_
  obtain ⟨_, b1, hf⟩ := Option.bind_eq_some_iff.mp hf
  refine x_ctI hf (e_stV (Yc := YX3_wantHorizontal) (ci := 2) (av := [.int (1 : Int32)]) (st := []) dX3_character_2 q3186 mX3_wantHorizontal rfl (k_ok_some b1).1 (k_ok_some b1).2) mX3_wantHorizontal.2.2.1 mX3_wantHorizontal.2.2.2.2.1 (Nat.le_of_ble_eq_true rfl) (Nat.le_of_ble_eq_true rfl) rfl (fun q hq => pX3_wantHorizontal (by omega) hq) (fun x2 h3 hf => ?_)
  refine w_istore_n dX3_character_5 rfl (by decide) (ls' := [some (.ref this), some (.int p0), some (.int x2), none]) rfl ?_
  refine w_aload_n dX3_character_6 rfl rfl ?_
  obtain ⟨a4, b5, hf⟩ := Option.bind_eq_some_iff.mp hf
  refine GX3_53 b5 dX3_character_7 rfl ?_
  obtain ⟨a6, b7, hf⟩ := Option.bind_eq_some_iff.mp hf
  refine GX3_311 b7 dX3_character_10 rfl ?_
  refine w_sipush dX3_character_13 (v := 2095) (by decide) ?_
  obtain ⟨x8, b9, hf⟩ := Option.bind_eq_some_iff.mp hf
  refine x_rI b9 dX3_character_16 ?_
  refine w_istore_n dX3_character_17 rfl (by decide) (ls' := [some (.ref this), some (.int p0), some (.int x2), some (.int x8)]) rfl ?_
  refine w_aload_n dX3_character_18 rfl rfl ?_
  obtain ⟨a10, b11, hf⟩ := Option.bind_eq_some_iff.mp hf
  refine GX3_14 b11 dX3_character_19 rfl ?_
  refine w_iload_n dX3_character_22 rfl rfl ?_
  refine w_iconst dX3_character_23 (v := -1) (by decide) ?_
  refine w_icmp_eq 47 dX3_character_24 (by decide) (fun c12 => ?_) (fun c12 => ?_)
  · replace hf := (if_pos (show x8 = (-1 : Int32) from c12)).symm.trans hf
    exact (pX3_character_b47 hd hf).to ⟨rfl, rfl, rfl, trivial⟩
  · replace hf := (if_neg (show ¬ (x8 = (-1 : Int32)) from c12)).symm.trans hf
    refine w_aload_n dX3_character_27 rfl rfl ?_
    obtain ⟨a13, b14, hf⟩ := Option.bind_eq_some_iff.mp hf
    refine GX3_23 b14 dX3_character_28 rfl ?_
    obtain ⟨a15, b16, hf⟩ := Option.bind_eq_some_iff.mp hf
    refine GX3_448 b16 dX3_character_31 rfl ?_
    refine w_iload_n dX3_character_34 rfl rfl ?_
    obtain ⟨a17, b18, hf⟩ := Option.bind_eq_some_iff.mp hf
    refine x_rA (c := 105) (by decide) b18 dX3_character_35 ?_
    refine w_iload_n dX3_character_36 rfl rfl ?_
    obtain ⟨_, b19, hf⟩ := Option.bind_eq_some_iff.mp hf
    refine x_cnI hf (e_stV (Yc := YX6_has) (ci := 5) (av := [.int p0]) (st := [.ref a10]) dX3_character_37 q3111 mX6_has rfl (k_ok_some b19).1 (k_ok_some b19).2) mX6_has.2.2.1 mX6_has.2.2.2.2.1 (Nat.le_of_ble_eq_true rfl) (Nat.le_of_ble_eq_true rfl) (fun q hq => pX6_has (by omega) hq) (fun q20 hf => ?_)
    refine w_if_eq 47 dX3_character_40 (by decide) (fun c21 => ?_) (fun c21 => ?_)
    · replace hf := (if_pos (show q20.1 = 0 from c21)).symm.trans hf
      exact (pX3_character_b47 hd hf).to ⟨rfl, rfl, rfl, trivial⟩
    · replace hf := (if_neg (show ¬ (q20.1 = 0) from c21)).symm.trans hf
      refine w_iconst dX3_character_43 (v := 1) (by decide) ?_
      refine w_goto 48 dX3_character_44 (by decide) ?_
      exact (pX3_character_b48 hd hf).to ⟨rfl, rfl, rfl, trivial⟩
abbrev cX9_open : ByteArray := prog_28_method_11_code
def yX9_open : MethodName := ⟨RX9, "open", "(I)V"⟩
def YX9_open : eY := (yX9_open, cX9_open, 2, none, [])
theorem mX9_open : e_mv YX9_open RX9 1 := ⟨q3654, q3655, q3656, by decide, by decide +kernel, (e_sig (by decide +kernel))⟩
theorem dX9_open_0 : decode cX9_open 0 = .ok (.aload_n 0, 1) := dc_42 (by decide +kernel)
theorem dX9_open_1 : decode cX9_open 1 = .ok (.getfield 36, 3) := dc_180 (a := 0) (b := 36) (n := 36) (by decide +kernel)
theorem dX9_open_4 : decode cX9_open 4 = .ok (.aload_n 0, 1) := dc_42 (by decide +kernel)
theorem dX9_open_5 : decode cX9_open 5 = .ok (.getfield 58, 3) := dc_180 (a := 0) (b := 58) (n := 58) (by decide +kernel)
theorem dX9_open_8 : decode cX9_open 8 = .ok (.iload_n 1, 1) := dc_27 (by decide +kernel)
theorem dX9_open_9 : decode cX9_open 9 = .ok (.iastore, 1) := dc_79 (by decide +kernel)
theorem dX9_open_10 : decode cX9_open 10 = .ok (.aload_n 0, 1) := dc_42 (by decide +kernel)
theorem dX9_open_11 : decode cX9_open 11 = .ok (.getfield 39, 3) := dc_180 (a := 0) (b := 39) (n := 39) (by decide +kernel)
theorem dX9_open_14 : decode cX9_open 14 = .ok (.aload_n 0, 1) := dc_42 (by decide +kernel)
theorem dX9_open_15 : decode cX9_open 15 = .ok (.getfield 58, 3) := dc_180 (a := 0) (b := 58) (n := 58) (by decide +kernel)
theorem dX9_open_18 : decode cX9_open 18 = .ok (.aload_n 0, 1) := dc_42 (by decide +kernel)
theorem dX9_open_19 : decode cX9_open 19 = .ok (.getfield 54, 3) := dc_180 (a := 0) (b := 54) (n := 54) (by decide +kernel)
theorem dX9_open_22 : decode cX9_open 22 = .ok (.iastore, 1) := dc_79 (by decide +kernel)
theorem dX9_open_23 : decode cX9_open 23 = .ok (.aload_n 0, 1) := dc_42 (by decide +kernel)
theorem dX9_open_24 : decode cX9_open 24 = .ok (.dup, 1) := dc_89 (by decide +kernel)
theorem dX9_open_25 : decode cX9_open 25 = .ok (.getfield 58, 3) := dc_180 (a := 0) (b := 58) (n := 58) (by decide +kernel)
theorem dX9_open_28 : decode cX9_open 28 = .ok (.iconst 1, 1) := dc_4 (by decide +kernel)
theorem dX9_open_29 : decode cX9_open 29 = .ok (.iadd, 1) := dc_96 (by decide +kernel)
theorem dX9_open_30 : decode cX9_open 30 = .ok (.putfield 58, 3) := dc_181 (a := 0) (b := 58) (n := 58) (by decide +kernel)
theorem dX9_open_33 : decode cX9_open 33 = .ok (.return_, 1) := dc_177 (by decide +kernel)
theorem GX9_36 {w : eW} {d : Nat} {Y : eY} {pc : Nat} {ls : eL} {st : List Value} {h : eH} {Q : eO → eH → Prop} {a : Nat} {x : Nat} (hf : g_A 8 h a 9 = some x) (hd : decode Y.2.1 pc = .ok (.getfield 36, 3)) (hY : Y.1.cls = RX9) (kk : wp w d Y (pc + 3) ls (.ref x :: st) h Q) : wp w d Y pc ls (.ref a :: st) h Q := x_gA (ci := 8) (k := 9) hf hd rfl (by decide) (by rw [hY]; exact q664) kk
def fX9_open (this : Nat) (p0 : Int32) (h : eH) : Option (Unit × eH) :=
  (g_A 8 h this 9).bind fun a1 =>
  (g_I 8 h this 11).bind fun x3 =>
  (q_V 100 h a1 x3 (.int p0)).bind fun h5 =>
  (g_A 8 h5 this 10).bind fun a7 =>
  (g_I 8 h5 this 11).bind fun x9 =>
  (g_I 8 h5 this 6).bind fun x11 =>
  (q_V 100 h5 a7 x9 (.int x11)).bind fun h13 =>
  (g_I 8 h13 this 11).bind fun x15 =>
  (p_V 8 h13 this 11 (.int (x15 + (1 : Int32)))).bind fun h17 =>
  some ((), h17)
theorem pX9_open {w : eW} {d : Nat} (hd : 0 ≤ d) {this : Nat} {p0 : Int32} {h : eH} {q} (hf : fX9_open this p0 h = some q) : wm w d YX9_open [.ref this, .int p0] h (e_is (e_rn c_V q)) := by
  show wp w d YX9_open 0 [some (.ref this), some (.int p0)] [] h _
  unfold fX9_open at hf
  refine w_aload_n dX9_open_0 rfl rfl ?_
  obtain ⟨a1, b2, hf⟩ := Option.bind_eq_some_iff.mp hf
  refine GX9_36 b2 dX9_open_1 rfl ?_
  refine w_aload_n dX9_open_4 rfl rfl ?_
  obtain ⟨x3, b4, hf⟩ := Option.bind_eq_some_iff.mp hf
  refine GX9_58 b4 dX9_open_5 rfl ?_
  refine w_iload_n dX9_open_8 rfl rfl ?_
  obtain ⟨h5, b6, hf⟩ := Option.bind_eq_some_iff.mp hf
  refine x_qI b6 dX9_open_9 ?_
  refine w_aload_n dX9_open_10 rfl rfl ?_
  obtain ⟨a7, b8, hf⟩ := Option.bind_eq_some_iff.mp hf
  refine GX9_39 b8 dX9_open_11 rfl ?_
  refine w_aload_n dX9_open_14 rfl rfl ?_
  obtain ⟨x9, b10, hf⟩ := Option.bind_eq_some_iff.mp hf
  refine GX9_58 b10 dX9_open_15 rfl ?_
  refine w_aload_n dX9_open_18 rfl rfl ?_
  obtain ⟨x11, b12, hf⟩ := Option.bind_eq_some_iff.mp hf
  refine GX9_54 b12 dX9_open_19 rfl ?_
  obtain ⟨h13, b14, hf⟩ := Option.bind_eq_some_iff.mp hf
  refine x_qI b14 dX9_open_22 ?_
  refine w_aload_n dX9_open_23 rfl rfl ?_
  refine w_dup dX9_open_24 rfl ?_
  obtain ⟨x15, b16, hf⟩ := Option.bind_eq_some_iff.mp hf
  refine GX9_58 b16 dX9_open_25 rfl ?_
  refine w_iconst dX9_open_28 (v := 1) (by decide) ?_
  refine w_iadd dX9_open_29 ?_
  obtain ⟨h17, b18, hf⟩ := Option.bind_eq_some_iff.mp hf
  refine SX9_58 b18 dX9_open_30 rfl ?_
  cases hf
  exact w_vret dX9_open_33 rfl rfl
abbrev cX3_open : ByteArray := prog_26_method_44_code
def yX3_open : MethodName := ⟨RX3, "open", "(I)V"⟩
def YX3_open : eY := (yX3_open, cX3_open, 2, none, [])
theorem mX3_open : e_mv YX3_open RX3 1 := ⟨q3651, qs157, q3652, by decide, by decide +kernel, (e_sig (by decide +kernel))⟩
theorem dX3_open_0 : decode cX3_open 0 = .ok (.aload_n 0, 1) := dc_42 (by decide +kernel)
theorem dX3_open_1 : decode cX3_open 1 = .ok (.getfield 14, 3) := dc_180 (a := 0) (b := 14) (n := 14) (by decide +kernel)
theorem dX3_open_4 : decode cX3_open 4 = .ok (.aload_n 0, 1) := dc_42 (by decide +kernel)
theorem dX3_open_5 : decode cX3_open 5 = .ok (.getfield 53, 3) := dc_180 (a := 0) (b := 53) (n := 53) (by decide +kernel)
theorem dX3_open_8 : decode cX3_open 8 = .ok (.getfield 264, 3) := dc_180 (a := 1) (b := 8) (n := 264) (by decide +kernel)
theorem dX3_open_11 : decode cX3_open 11 = .ok (.bipush 100, 2) := dc_16 (a := 100) (v := 100) (by decide +kernel)
theorem dX3_open_13 : decode cX3_open 13 = .ok (.if_icmp .ge 7, 3) := dc_162 (a := 0) (b := 7) (v := 7) (by decide +kernel)
theorem dX3_open_16 : decode cX3_open 16 = .ok (.iconst 1, 1) := dc_4 (by decide +kernel)
theorem dX3_open_17 : decode cX3_open 17 = .ok (.goto 4, 3) := dc_167 (a := 0) (b := 4) (v := 4) (by decide +kernel)
theorem dX3_open_20 : decode cX3_open 20 = .ok (.iconst 0, 1) := dc_3 (by decide +kernel)
theorem dX3_open_21 : decode cX3_open 21 = .ok (.iconst 2, 1) := dc_5 (by decide +kernel)
theorem dX3_open_22 : decode cX3_open 22 = .ok (.invokevirtual 289, 3) := dc_182 (a := 1) (b := 33) (n := 289) (by decide +kernel)
theorem dX3_open_25 : decode cX3_open 25 = .ok (.aload_n 0, 1) := dc_42 (by decide +kernel)
theorem dX3_open_26 : decode cX3_open 26 = .ok (.getfield 53, 3) := dc_180 (a := 0) (b := 53) (n := 53) (by decide +kernel)
theorem dX3_open_29 : decode cX3_open 29 = .ok (.iload_n 1, 1) := dc_27 (by decide +kernel)
theorem dX3_open_30 : decode cX3_open 30 = .ok (.invokevirtual 676, 3) := dc_182 (a := 2) (b := 164) (n := 676) (by decide +kernel)
theorem dX3_open_33 : decode cX3_open 33 = .ok (.return_, 1) := dc_177 (by decide +kernel)
theorem GX3_264 {w : eW} {d : Nat} {Y : eY} {pc : Nat} {ls : eL} {st : List Value} {h : eH} {Q : eO → eH → Prop} {a : Nat} {x : Int32} (hf : g_I 8 h a 11 = some x) (hd : decode Y.2.1 pc = .ok (.getfield 264, 3)) (hY : Y.1.cls = RX3) (kk : wp w d Y (pc + 3) ls (.int x :: st) h Q) : wp w d Y pc ls (.ref a :: st) h Q := x_gIN (ci := 8) (k := 11) hf hd rfl (by decide) (by rw [hY]; exact q668) kk
def fX3_open_b21 (l0 : Nat) (l1 : Int32) (s0 : Nat) (s1 : Int32) (h : eH) : Option ((Unit ⊕ Nat) × eH) :=
  (k_ok 3 h s0).bind fun _ =>
  t_B (fX4_want s0 s1 (2 : Int32) h) fun x2 h3 =>
  (g_A 2 h3 l0 6).bind fun a4 =>
  (k_ok 8 h3 a4).bind fun _ =>
  (fX9_open a4 l1 h3).bind fun q7 =>
  some (.inl (), q7.2)
theorem pX3_open_b21 {w : eW} {d : Nat} (hd : 8 ≤ d + 1) {l0 : Nat} {l1 : Int32} {s0 : Nat} {s1 : Int32} {h : eH} {q} (hf : fX3_open_b21 l0 l1 s0 s1 h = some q) : wp w (d + 1) YX3_open 21 [some (.ref l0), some (.int l1)] [.int s1, .ref s0] h (e_is (e_rt c_V q)) := by
  unfold fX3_open_b21 at hf
  refine w_iconst dX3_open_21 (v := 2) (by decide) ?_
  obtain ⟨_, b1, hf⟩ := Option.bind_eq_some_iff.mp hf
  refine x_ctV hf (e_stV (Yc := YX4_want) (ci := 3) (av := [.int s1, .int (2 : Int32)]) (st := []) dX3_open_22 q2846 mX4_want rfl (k_ok_some b1).1 (k_ok_some b1).2) mX4_want.2.2.1 mX4_want.2.2.2.2.1 (Nat.le_of_ble_eq_true rfl) (Nat.le_of_ble_eq_true rfl) rfl (fun q hq => pX4_want (by omega) hq) (fun x2 h3 hf => ?_)
  refine w_aload_n dX3_open_25 rfl rfl ?_
  obtain ⟨a4, b5, hf⟩ := Option.bind_eq_some_iff.mp hf
  refine GX3_53 b5 dX3_open_26 rfl ?_
  refine w_iload_n dX3_open_29 rfl rfl ?_
  obtain ⟨_, b6, hf⟩ := Option.bind_eq_some_iff.mp hf
  refine x_cnV hf (e_stV (Yc := YX9_open) (ci := 8) (av := [.int l1]) (st := []) dX3_open_30 q3653 mX9_open rfl (k_ok_some b6).1 (k_ok_some b6).2) mX9_open.2.2.1 mX9_open.2.2.2.2.1 (Nat.le_of_ble_eq_true rfl) (Nat.le_of_ble_eq_true rfl) (fun q hq => pX9_open (by omega) hq) (fun q7 hf => ?_)
  cases hf
  exact w_vret dX3_open_33 rfl rfl
def fX3_open (this : Nat) (p0 : Int32) (h : eH) : Option ((Unit ⊕ Nat) × eH) :=
  (g_A 2 h this 0).bind fun a1 =>
  (g_A 2 h this 6).bind fun a3 =>
  (g_I 8 h a3 11).bind fun x5 =>
  if (100 : Int32) ≤ x5 then
    fX3_open_b21 this p0 a1 (0 : Int32) h
  else
    fX3_open_b21 this p0 a1 (1 : Int32) h
theorem pX3_open {w : eW} {d : Nat} (hd : 8 ≤ d) {this : Nat} {p0 : Int32} {h : eH} {q} (hf : fX3_open this p0 h = some q) : wm w d YX3_open [.ref this, .int p0] h (e_is (e_rt c_V q)) := by
  obtain ⟨d, rfl⟩ : ∃ e, d = e + 1 := ⟨d - 1, by omega⟩
  show wp w (d + 1) YX3_open 0 [some (.ref this), some (.int p0)] [] h _
  unfold fX3_open at hf
  refine w_aload_n dX3_open_0 rfl rfl ?_
  obtain ⟨a1, b2, hf⟩ := Option.bind_eq_some_iff.mp hf
  refine GX3_14 b2 dX3_open_1 rfl ?_
  refine w_aload_n dX3_open_4 rfl rfl ?_
  obtain ⟨a3, b4, hf⟩ := Option.bind_eq_some_iff.mp hf
  refine GX3_53 b4 dX3_open_5 rfl ?_
  obtain ⟨x5, b6, hf⟩ := Option.bind_eq_some_iff.mp hf
  refine GX3_264 b6 dX3_open_8 rfl ?_
  refine w_bipush dX3_open_11 (v := 100) (by decide) ?_
  refine w_icmp_ge 20 dX3_open_13 (by decide) (fun c7 => ?_) (fun c7 => ?_)
  · replace hf := (if_pos (show (100 : Int32) ≤ x5 from c7)).symm.trans hf
    refine w_iconst dX3_open_20 (v := 0) (by decide) ?_
    exact (pX3_open_b21 hd hf).to ⟨rfl, rfl, trivial⟩
  · replace hf := (if_neg (show ¬ ((100 : Int32) ≤ x5) from c7)).symm.trans hf
    refine w_iconst dX3_open_16 (v := 1) (by decide) ?_
    refine w_goto 21 dX3_open_17 (by decide) ?_
    exact (pX3_open_b21 hd hf).to ⟨rfl, rfl, trivial⟩
abbrev cX34_copy : ByteArray := prog_13_method_5_code
def yX34_copy : MethodName := ⟨RX34, "copy", "(LTypeHouse$Lists;I)V"⟩
def YX34_copy : eY := (yX34_copy, cX34_copy, 4, none, [])
theorem mX34_copy : e_mv YX34_copy RX34 2 := ⟨q3666, q3667, q3668, by decide, by decide +kernel, (e_sig (by decide +kernel))⟩
theorem dX34_copy_0 : decode cX34_copy 0 = .ok (.bipush 6, 2) := dc_16 (a := 6) (v := 6) (by decide +kernel)
theorem dX34_copy_2 : decode cX34_copy 2 = .ok (.iload_n 2, 1) := dc_28 (by decide +kernel)
theorem dX34_copy_3 : decode cX34_copy 3 = .ok (.imul, 1) := dc_104 (by decide +kernel)
theorem dX34_copy_4 : decode cX34_copy 4 = .ok (.istore_n 3, 1) := dc_62 (by decide +kernel)
theorem dX34_copy_5 : decode cX34_copy 5 = .ok (.aload_n 0, 1) := dc_42 (by decide +kernel)
theorem dX34_copy_6 : decode cX34_copy 6 = .ok (.aload_n 1, 1) := dc_43 (by decide +kernel)
theorem dX34_copy_7 : decode cX34_copy 7 = .ok (.getfield 9, 3) := dc_180 (a := 0) (b := 9) (n := 9) (by decide +kernel)
theorem dX34_copy_10 : decode cX34_copy 10 = .ok (.iload_n 3, 1) := dc_29 (by decide +kernel)
theorem dX34_copy_11 : decode cX34_copy 11 = .ok (.iaload, 1) := dc_46 (by decide +kernel)
theorem dX34_copy_12 : decode cX34_copy 12 = .ok (.aload_n 1, 1) := dc_43 (by decide +kernel)
theorem dX34_copy_13 : decode cX34_copy 13 = .ok (.getfield 9, 3) := dc_180 (a := 0) (b := 9) (n := 9) (by decide +kernel)
theorem dX34_copy_16 : decode cX34_copy 16 = .ok (.iload_n 3, 1) := dc_29 (by decide +kernel)
theorem dX34_copy_17 : decode cX34_copy 17 = .ok (.iconst 1, 1) := dc_4 (by decide +kernel)
theorem dX34_copy_18 : decode cX34_copy 18 = .ok (.iadd, 1) := dc_96 (by decide +kernel)
theorem dX34_copy_19 : decode cX34_copy 19 = .ok (.iaload, 1) := dc_46 (by decide +kernel)
theorem dX34_copy_20 : decode cX34_copy 20 = .ok (.aload_n 1, 1) := dc_43 (by decide +kernel)
theorem dX34_copy_21 : decode cX34_copy 21 = .ok (.getfield 9, 3) := dc_180 (a := 0) (b := 9) (n := 9) (by decide +kernel)
theorem dX34_copy_24 : decode cX34_copy 24 = .ok (.iload_n 3, 1) := dc_29 (by decide +kernel)
theorem dX34_copy_25 : decode cX34_copy 25 = .ok (.iconst 2, 1) := dc_5 (by decide +kernel)
theorem dX34_copy_26 : decode cX34_copy 26 = .ok (.iadd, 1) := dc_96 (by decide +kernel)
theorem dX34_copy_27 : decode cX34_copy 27 = .ok (.iaload, 1) := dc_46 (by decide +kernel)
theorem dX34_copy_28 : decode cX34_copy 28 = .ok (.aload_n 1, 1) := dc_43 (by decide +kernel)
theorem dX34_copy_29 : decode cX34_copy 29 = .ok (.getfield 9, 3) := dc_180 (a := 0) (b := 9) (n := 9) (by decide +kernel)
theorem dX34_copy_32 : decode cX34_copy 32 = .ok (.iload_n 3, 1) := dc_29 (by decide +kernel)
theorem dX34_copy_33 : decode cX34_copy 33 = .ok (.iconst 3, 1) := dc_6 (by decide +kernel)
theorem dX34_copy_34 : decode cX34_copy 34 = .ok (.iadd, 1) := dc_96 (by decide +kernel)
theorem dX34_copy_35 : decode cX34_copy 35 = .ok (.iaload, 1) := dc_46 (by decide +kernel)
theorem dX34_copy_36 : decode cX34_copy 36 = .ok (.aload_n 1, 1) := dc_43 (by decide +kernel)
theorem dX34_copy_37 : decode cX34_copy 37 = .ok (.getfield 9, 3) := dc_180 (a := 0) (b := 9) (n := 9) (by decide +kernel)
theorem dX34_copy_40 : decode cX34_copy 40 = .ok (.iload_n 3, 1) := dc_29 (by decide +kernel)
theorem dX34_copy_41 : decode cX34_copy 41 = .ok (.iconst 4, 1) := dc_7 (by decide +kernel)
theorem dX34_copy_42 : decode cX34_copy 42 = .ok (.iadd, 1) := dc_96 (by decide +kernel)
theorem dX34_copy_43 : decode cX34_copy 43 = .ok (.iaload, 1) := dc_46 (by decide +kernel)
theorem dX34_copy_44 : decode cX34_copy 44 = .ok (.aload_n 1, 1) := dc_43 (by decide +kernel)
theorem dX34_copy_45 : decode cX34_copy 45 = .ok (.getfield 9, 3) := dc_180 (a := 0) (b := 9) (n := 9) (by decide +kernel)
theorem dX34_copy_48 : decode cX34_copy 48 = .ok (.iload_n 3, 1) := dc_29 (by decide +kernel)
theorem dX34_copy_49 : decode cX34_copy 49 = .ok (.iconst 5, 1) := dc_8 (by decide +kernel)
theorem dX34_copy_50 : decode cX34_copy 50 = .ok (.iadd, 1) := dc_96 (by decide +kernel)
theorem dX34_copy_51 : decode cX34_copy 51 = .ok (.iaload, 1) := dc_46 (by decide +kernel)
theorem dX34_copy_52 : decode cX34_copy 52 = .ok (.invokevirtual 23, 3) := dc_182 (a := 0) (b := 23) (n := 23) (by decide +kernel)
theorem dX34_copy_55 : decode cX34_copy 55 = .ok (.return_, 1) := dc_177 (by decide +kernel)
def fX34_copy (this : Nat) (p0 : Nat) (p1 : Int32) (h : eH) : Option (Unit × eH) :=
  (g_A 33 h p0 0).bind fun a1 =>
  (r_I 100 h a1 ((6 : Int32) * p1)).bind fun x3 =>
  (g_A 33 h p0 0).bind fun a5 =>
  (r_I 100 h a5 (((6 : Int32) * p1) + (1 : Int32))).bind fun x7 =>
  (g_A 33 h p0 0).bind fun a9 =>
  (r_I 100 h a9 (((6 : Int32) * p1) + (2 : Int32))).bind fun x11 =>
  (g_A 33 h p0 0).bind fun a13 =>
  (r_I 100 h a13 (((6 : Int32) * p1) + (3 : Int32))).bind fun x15 =>
  (g_A 33 h p0 0).bind fun a17 =>
  (r_I 100 h a17 (((6 : Int32) * p1) + (4 : Int32))).bind fun x19 =>
  (g_A 33 h p0 0).bind fun a21 =>
  (r_I 100 h a21 (((6 : Int32) * p1) + (5 : Int32))).bind fun x23 =>
  (k_ok 33 h this).bind fun _ =>
  (fX34_add this x3 x7 x11 x15 x19 x23 h).bind fun q26 =>
  some ((), q26.2)
theorem pX34_copy {w : eW} {d : Nat} (hd : 3 ≤ d) {this : Nat} {p0 : Nat} {p1 : Int32} {h : eH} {q} (hf : fX34_copy this p0 p1 h = some q) : wm w d YX34_copy [.ref this, .ref p0, .int p1] h (e_is (e_rn c_V q)) := by
  obtain ⟨d, rfl⟩ : ∃ e, d = e + 1 := ⟨d - 1, by omega⟩
  show wp w (d + 1) YX34_copy 0 [some (.ref this), some (.ref p0), some (.int p1), none] [] h _
  unfold fX34_copy at hf
  refine w_bipush dX34_copy_0 (v := 6) (by decide) ?_
  refine w_iload_n dX34_copy_2 rfl rfl ?_
  refine w_imul dX34_copy_3 ?_
  refine w_istore_n dX34_copy_4 rfl (by decide) (ls' := [some (.ref this), some (.ref p0), some (.int p1), some (.int ((6 : Int32) * p1))]) rfl ?_
  refine w_aload_n dX34_copy_5 rfl rfl ?_
  refine w_aload_n dX34_copy_6 rfl rfl ?_
  obtain ⟨a1, b2, hf⟩ := Option.bind_eq_some_iff.mp hf
  refine GX34_9 b2 dX34_copy_7 rfl ?_
  refine w_iload_n dX34_copy_10 rfl rfl ?_
  obtain ⟨x3, b4, hf⟩ := Option.bind_eq_some_iff.mp hf
  refine x_rI b4 dX34_copy_11 ?_
  refine w_aload_n dX34_copy_12 rfl rfl ?_
  obtain ⟨a5, b6, hf⟩ := Option.bind_eq_some_iff.mp hf
  refine GX34_9 b6 dX34_copy_13 rfl ?_
  refine w_iload_n dX34_copy_16 rfl rfl ?_
  refine w_iconst dX34_copy_17 (v := 1) (by decide) ?_
  refine w_iadd dX34_copy_18 ?_
  obtain ⟨x7, b8, hf⟩ := Option.bind_eq_some_iff.mp hf
  refine x_rI b8 dX34_copy_19 ?_
  refine w_aload_n dX34_copy_20 rfl rfl ?_
  obtain ⟨a9, b10, hf⟩ := Option.bind_eq_some_iff.mp hf
  refine GX34_9 b10 dX34_copy_21 rfl ?_
  refine w_iload_n dX34_copy_24 rfl rfl ?_
  refine w_iconst dX34_copy_25 (v := 2) (by decide) ?_
  refine w_iadd dX34_copy_26 ?_
  obtain ⟨x11, b12, hf⟩ := Option.bind_eq_some_iff.mp hf
  refine x_rI b12 dX34_copy_27 ?_
  refine w_aload_n dX34_copy_28 rfl rfl ?_
  obtain ⟨a13, b14, hf⟩ := Option.bind_eq_some_iff.mp hf
  refine GX34_9 b14 dX34_copy_29 rfl ?_
  refine w_iload_n dX34_copy_32 rfl rfl ?_
  refine w_iconst dX34_copy_33 (v := 3) (by decide) ?_
  refine w_iadd dX34_copy_34 ?_
  obtain ⟨x15, b16, hf⟩ := Option.bind_eq_some_iff.mp hf
  refine x_rI b16 dX34_copy_35 ?_
  refine w_aload_n dX34_copy_36 rfl rfl ?_
  obtain ⟨a17, b18, hf⟩ := Option.bind_eq_some_iff.mp hf
  refine GX34_9 b18 dX34_copy_37 rfl ?_
  refine w_iload_n dX34_copy_40 rfl rfl ?_
  refine w_iconst dX34_copy_41 (v := 4) (by decide) ?_
  refine w_iadd dX34_copy_42 ?_
  obtain ⟨x19, b20, hf⟩ := Option.bind_eq_some_iff.mp hf
  refine x_rI b20 dX34_copy_43 ?_
  refine w_aload_n dX34_copy_44 rfl rfl ?_
  obtain ⟨a21, b22, hf⟩ := Option.bind_eq_some_iff.mp hf
  refine GX34_9 b22 dX34_copy_45 rfl ?_
  refine w_iload_n dX34_copy_48 rfl rfl ?_
  refine w_iconst dX34_copy_49 (v := 5) (by decide) ?_
  refine w_iadd dX34_copy_50 ?_
  obtain ⟨x23, b24, hf⟩ := Option.bind_eq_some_iff.mp hf
  refine x_rI b24 dX34_copy_51 ?_
  obtain ⟨_, b25, hf⟩ := Option.bind_eq_some_iff.mp hf
  refine x_cnV hf (e_stV (Yc := YX34_add) (ci := 33) (av := [.int x3, .int x7, .int x11, .int x15, .int x19, .int x23]) (st := []) dX34_copy_52 q3669 mX34_add rfl (k_ok_some b25).1 (k_ok_some b25).2) mX34_add.2.2.1 mX34_add.2.2.2.2.1 (Nat.le_of_ble_eq_true rfl) (Nat.le_of_ble_eq_true rfl) (fun q hq => pX34_add (by omega) hq) (fun q26 hf => ?_)
  cases hf
  exact w_vret dX34_copy_55 rfl rfl
abbrev cX3_pop : ByteArray := prog_26_method_7_code
def yX3_pop : MethodName := ⟨RX3, "pop", "()V"⟩
def YX3_pop : eY := (yX3_pop, cX3_pop, 1, none, [])
theorem mX3_pop : e_mv YX3_pop RX3 0 := ⟨q3672, qs160, q3673, by decide, by decide +kernel, (e_sig (by decide +kernel))⟩
theorem dX3_pop_0 : decode cX3_pop 0 = .ok (.aload_n 0, 1) := dc_42 (by decide +kernel)
theorem dX3_pop_1 : decode cX3_pop 1 = .ok (.getfield 126, 3) := dc_180 (a := 0) (b := 126) (n := 126) (by decide +kernel)
theorem dX3_pop_4 : decode cX3_pop 4 = .ok (.aload_n 0, 1) := dc_42 (by decide +kernel)
theorem dX3_pop_5 : decode cX3_pop 5 = .ok (.getfield 140, 3) := dc_180 (a := 0) (b := 140) (n := 140) (by decide +kernel)
theorem dX3_pop_8 : decode cX3_pop 8 = .ok (.aload_n 0, 1) := dc_42 (by decide +kernel)
theorem dX3_pop_9 : decode cX3_pop 9 = .ok (.getfield 211, 3) := dc_180 (a := 0) (b := 211) (n := 211) (by decide +kernel)
theorem dX3_pop_12 : decode cX3_pop 12 = .ok (.iaload, 1) := dc_46 (by decide +kernel)
theorem dX3_pop_13 : decode cX3_pop 13 = .ok (.putfield 210, 3) := dc_181 (a := 0) (b := 210) (n := 210) (by decide +kernel)
theorem dX3_pop_16 : decode cX3_pop 16 = .ok (.aload_n 0, 1) := dc_42 (by decide +kernel)
theorem dX3_pop_17 : decode cX3_pop 17 = .ok (.dup, 1) := dc_89 (by decide +kernel)
theorem dX3_pop_18 : decode cX3_pop 18 = .ok (.getfield 211, 3) := dc_180 (a := 0) (b := 211) (n := 211) (by decide +kernel)
theorem dX3_pop_21 : decode cX3_pop 21 = .ok (.iconst 1, 1) := dc_4 (by decide +kernel)
theorem dX3_pop_22 : decode cX3_pop 22 = .ok (.isub, 1) := dc_100 (by decide +kernel)
theorem dX3_pop_23 : decode cX3_pop 23 = .ok (.putfield 211, 3) := dc_181 (a := 0) (b := 211) (n := 211) (by decide +kernel)
theorem dX3_pop_26 : decode cX3_pop 26 = .ok (.aload_n 0, 1) := dc_42 (by decide +kernel)
theorem dX3_pop_27 : decode cX3_pop 27 = .ok (.getfield 45, 3) := dc_180 (a := 0) (b := 45) (n := 45) (by decide +kernel)
theorem dX3_pop_30 : decode cX3_pop 30 = .ok (.aload_n 0, 1) := dc_42 (by decide +kernel)
theorem dX3_pop_31 : decode cX3_pop 31 = .ok (.invokevirtual 298, 3) := dc_182 (a := 1) (b := 42) (n := 298) (by decide +kernel)
theorem dX3_pop_34 : decode cX3_pop 34 = .ok (.putfield 215, 3) := dc_181 (a := 0) (b := 215) (n := 215) (by decide +kernel)
theorem dX3_pop_37 : decode cX3_pop 37 = .ok (.return_, 1) := dc_177 (by decide +kernel)
def fX3_pop (this : Nat) (h : eH) : Option (Unit × eH) :=
  (g_A 2 h this 16).bind fun a1 =>
  (g_A 2 h this 20).bind fun a3 =>
  (g_I 2 h this 27).bind fun x5 =>
  (r_I 100 h a3 x5).bind fun x7 =>
  (p_V 33 h a1 1 (.int x7)).bind fun h9 =>
  (g_I 2 h9 this 27).bind fun x11 =>
  (p_V 2 h9 this 27 (.int (x11 - (1 : Int32)))).bind fun h13 =>
  (g_A 2 h13 this 5).bind fun a15 =>
  (k_ok 2 h13 this).bind fun _ =>
  (fX3_isVertical this h13).bind fun q18 =>
  (p_Z 7 q18.2 a15 11 q18.1).bind fun h19 =>
  some ((), h19)
theorem pX3_pop {w : eW} {d : Nat} (hd : 1 ≤ d) {this : Nat} {h : eH} {q} (hf : fX3_pop this h = some q) : wm w d YX3_pop [.ref this] h (e_is (e_rn c_V q)) := by
  obtain ⟨d, rfl⟩ : ∃ e, d = e + 1 := ⟨d - 1, by omega⟩
  show wp w (d + 1) YX3_pop 0 [some (.ref this)] [] h _
  unfold fX3_pop at hf
  refine w_aload_n dX3_pop_0 rfl rfl ?_
  obtain ⟨a1, b2, hf⟩ := Option.bind_eq_some_iff.mp hf
  refine GX3_126 b2 dX3_pop_1 rfl ?_
  refine w_aload_n dX3_pop_4 rfl rfl ?_
  obtain ⟨a3, b4, hf⟩ := Option.bind_eq_some_iff.mp hf
  refine GX3_140 b4 dX3_pop_5 rfl ?_
  refine w_aload_n dX3_pop_8 rfl rfl ?_
  obtain ⟨x5, b6, hf⟩ := Option.bind_eq_some_iff.mp hf
  refine GX3_211 b6 dX3_pop_9 rfl ?_
  obtain ⟨x7, b8, hf⟩ := Option.bind_eq_some_iff.mp hf
  refine x_rI b8 dX3_pop_12 ?_
  obtain ⟨h9, b10, hf⟩ := Option.bind_eq_some_iff.mp hf
  refine SX3_210 b10 dX3_pop_13 rfl ?_
  refine w_aload_n dX3_pop_16 rfl rfl ?_
  refine w_dup dX3_pop_17 rfl ?_
  obtain ⟨x11, b12, hf⟩ := Option.bind_eq_some_iff.mp hf
  refine GX3_211 b12 dX3_pop_18 rfl ?_
  refine w_iconst dX3_pop_21 (v := 1) (by decide) ?_
  refine w_isub dX3_pop_22 ?_
  obtain ⟨h13, b14, hf⟩ := Option.bind_eq_some_iff.mp hf
  refine SX3_211 b14 dX3_pop_23 rfl ?_
  refine w_aload_n dX3_pop_26 rfl rfl ?_
  obtain ⟨a15, b16, hf⟩ := Option.bind_eq_some_iff.mp hf
  refine GX3_45 b16 dX3_pop_27 rfl ?_
  refine w_aload_n dX3_pop_30 rfl rfl ?_
  obtain ⟨_, b17, hf⟩ := Option.bind_eq_some_iff.mp hf
  refine x_cnI hf (e_stV (Yc := YX3_isVertical) (ci := 2) (av := []) (st := [.ref a15]) dX3_pop_31 q3190 mX3_isVertical rfl (k_ok_some b17).1 (k_ok_some b17).2) mX3_isVertical.2.2.1 mX3_isVertical.2.2.2.2.1 (Nat.le_of_ble_eq_true rfl) (Nat.le_of_ble_eq_true rfl) (fun q hq => pX3_isVertical (by omega) hq) (fun q18 hf => ?_)
  obtain ⟨h19, b20, hf⟩ := Option.bind_eq_some_iff.mp hf
  refine SX3_215 b20 dX3_pop_34 rfl ?_
  cases hf
  exact w_vret dX3_pop_37 rfl rfl
abbrev cX21_want : ByteArray := prog_3_method_2_code
def yX21_want : MethodName := ⟨RX21, "want", "(II)V"⟩
def YX21_want : eY := (yX21_want, cX21_want, 3, none, [])
theorem mX21_want : e_mv YX21_want RX21 2 := ⟨q3680, qs161, q3681, by decide, by decide +kernel, (e_sig (by decide +kernel))⟩
theorem dX21_want_0 : decode cX21_want 0 = .ok (.aload_n 0, 1) := dc_42 (by decide +kernel)
theorem dX21_want_1 : decode cX21_want 1 = .ok (.getfield 25, 3) := dc_180 (a := 0) (b := 25) (n := 25) (by decide +kernel)
theorem dX21_want_4 : decode cX21_want 4 = .ok (.iload_n 1, 1) := dc_27 (by decide +kernel)
theorem dX21_want_5 : decode cX21_want 5 = .ok (.getstatic 50, 3) := dc_178 (a := 0) (b := 50) (n := 50) (by decide +kernel)
theorem dX21_want_8 : decode cX21_want 8 = .ok (.iload_n 1, 1) := dc_27 (by decide +kernel)
theorem dX21_want_9 : decode cX21_want 9 = .ok (.iaload, 1) := dc_46 (by decide +kernel)
theorem dX21_want_10 : decode cX21_want 10 = .ok (.getstatic 53, 3) := dc_178 (a := 0) (b := 53) (n := 53) (by decide +kernel)
theorem dX21_want_13 : decode cX21_want 13 = .ok (.iload_n 1, 1) := dc_27 (by decide +kernel)
theorem dX21_want_14 : decode cX21_want 14 = .ok (.iaload, 1) := dc_46 (by decide +kernel)
theorem dX21_want_15 : decode cX21_want 15 = .ok (.iload_n 2, 1) := dc_28 (by decide +kernel)
theorem dX21_want_16 : decode cX21_want 16 = .ok (.invokestatic 56, 3) := dc_184 (a := 0) (b := 56) (n := 56) (by decide +kernel)
theorem dX21_want_19 : decode cX21_want 19 = .ok (.invokestatic 62, 3) := dc_184 (a := 0) (b := 62) (n := 62) (by decide +kernel)
theorem dX21_want_22 : decode cX21_want 22 = .ok (.iastore, 1) := dc_79 (by decide +kernel)
theorem dX21_want_23 : decode cX21_want 23 = .ok (.return_, 1) := dc_177 (by decide +kernel)
def fX21_want (this : Nat) (p0 : Int32) (p1 : Int32) (h : eH) : Option (Unit × eH) :=
  (g_A 20 h this 2).bind fun a1 =>
  (o_int 1000000001 p0).bind fun x3 =>
  (o_int 1000000002 p0).bind fun x5 =>
  (q_V 100 h a1 p0 (.int (m_maxI x3 (m_minI x5 p1)))).bind fun h7 =>
  some ((), h7)
theorem pX21_want {w : eW} {d : Nat} (hd : 1 ≤ d) {this : Nat} {p0 : Int32} {p1 : Int32} {h : eH} {q} (hf : fX21_want this p0 p1 h = some q) : wm w d YX21_want [.ref this, .int p0, .int p1] h (e_is (e_rn c_V q)) := by
  obtain ⟨d, rfl⟩ : ∃ e, d = e + 1 := ⟨d - 1, by omega⟩
  show wp w (d + 1) YX21_want 0 [some (.ref this), some (.int p0), some (.int p1)] [] h _
  unfold fX21_want at hf
  refine w_aload_n dX21_want_0 rfl rfl ?_
  obtain ⟨a1, b2, hf⟩ := Option.bind_eq_some_iff.mp hf
  refine GX21_25 b2 dX21_want_1 rfl ?_
  refine w_iload_n dX21_want_4 rfl rfl ?_
  refine x_gs (j := 1) dX21_want_5 rfl q3682 ?_
  refine w_iload_n dX21_want_8 rfl rfl ?_
  obtain ⟨x3, b4, hf⟩ := Option.bind_eq_some_iff.mp hf
  refine x_oI b4 dX21_want_9 ?_
  refine x_gs (j := 2) dX21_want_10 rfl q3684 ?_
  refine w_iload_n dX21_want_13 rfl rfl ?_
  obtain ⟨x5, b6, hf⟩ := Option.bind_eq_some_iff.mp hf
  refine x_oI b6 dX21_want_14 ?_
  refine w_iload_n dX21_want_15 rfl rfl ?_
  refine x_minI dX21_want_16 q3686 q2930 q478 q2931 (Nat.le_of_ble_eq_true rfl) ?_
  refine x_maxI dX21_want_19 q3687 q2912 q478 q2913 (Nat.le_of_ble_eq_true rfl) ?_
  obtain ⟨h7, b8, hf⟩ := Option.bind_eq_some_iff.mp hf
  refine x_qI b8 dX21_want_22 ?_
  cases hf
  exact w_vret dX21_want_23 rfl rfl
abbrev cX21_prepare : ByteArray := prog_3_method_3_code
def yX21_prepare : MethodName := ⟨RX21, "prepare", "([I)V"⟩
def YX21_prepare : eY := (yX21_prepare, cX21_prepare, 3, none, [])
theorem mX21_prepare : e_mv YX21_prepare RX21 1 := ⟨q3675, q3676, q3677, by decide, by decide +kernel, (e_sig (by decide +kernel))⟩
theorem dX21_prepare_0 : decode cX21_prepare 0 = .ok (.aload_n 0, 1) := dc_42 (by decide +kernel)
theorem dX21_prepare_1 : decode cX21_prepare 1 = .ok (.getfield 12, 3) := dc_180 (a := 0) (b := 12) (n := 12) (by decide +kernel)
theorem dX21_prepare_4 : decode cX21_prepare 4 = .ok (.iconst 0, 1) := dc_3 (by decide +kernel)
theorem dX21_prepare_5 : decode cX21_prepare 5 = .ok (.putfield 65, 3) := dc_181 (a := 0) (b := 65) (n := 65) (by decide +kernel)
theorem dX21_prepare_8 : decode cX21_prepare 8 = .ok (.aload_n 0, 1) := dc_42 (by decide +kernel)
theorem dX21_prepare_9 : decode cX21_prepare 9 = .ok (.iconst 0, 1) := dc_3 (by decide +kernel)
theorem dX21_prepare_10 : decode cX21_prepare 10 = .ok (.aload_n 1, 1) := dc_43 (by decide +kernel)
theorem dX21_prepare_11 : decode cX21_prepare 11 = .ok (.sipush 256, 3) := dc_17 (a := 1) (b := 0) (v := 256) (by decide +kernel)
theorem dX21_prepare_14 : decode cX21_prepare 14 = .ok (.iaload, 1) := dc_46 (by decide +kernel)
theorem dX21_prepare_15 : decode cX21_prepare 15 = .ok (.invokevirtual 69, 3) := dc_182 (a := 0) (b := 69) (n := 69) (by decide +kernel)
theorem dX21_prepare_18 : decode cX21_prepare 18 = .ok (.aload_n 0, 1) := dc_42 (by decide +kernel)
theorem dX21_prepare_19 : decode cX21_prepare 19 = .ok (.iconst 1, 1) := dc_4 (by decide +kernel)
theorem dX21_prepare_20 : decode cX21_prepare 20 = .ok (.aload_n 1, 1) := dc_43 (by decide +kernel)
theorem dX21_prepare_21 : decode cX21_prepare 21 = .ok (.sipush 257, 3) := dc_17 (a := 1) (b := 1) (v := 257) (by decide +kernel)
theorem dX21_prepare_24 : decode cX21_prepare 24 = .ok (.iaload, 1) := dc_46 (by decide +kernel)
theorem dX21_prepare_25 : decode cX21_prepare 25 = .ok (.invokevirtual 69, 3) := dc_182 (a := 0) (b := 69) (n := 69) (by decide +kernel)
theorem dX21_prepare_28 : decode cX21_prepare 28 = .ok (.aload_n 0, 1) := dc_42 (by decide +kernel)
theorem dX21_prepare_29 : decode cX21_prepare 29 = .ok (.iconst 2, 1) := dc_5 (by decide +kernel)
theorem dX21_prepare_30 : decode cX21_prepare 30 = .ok (.aload_n 1, 1) := dc_43 (by decide +kernel)
theorem dX21_prepare_31 : decode cX21_prepare 31 = .ok (.sipush 258, 3) := dc_17 (a := 1) (b := 2) (v := 258) (by decide +kernel)
theorem dX21_prepare_34 : decode cX21_prepare 34 = .ok (.iaload, 1) := dc_46 (by decide +kernel)
theorem dX21_prepare_35 : decode cX21_prepare 35 = .ok (.invokevirtual 69, 3) := dc_182 (a := 0) (b := 69) (n := 69) (by decide +kernel)
theorem dX21_prepare_38 : decode cX21_prepare 38 = .ok (.aload_n 0, 1) := dc_42 (by decide +kernel)
theorem dX21_prepare_39 : decode cX21_prepare 39 = .ok (.iconst 3, 1) := dc_6 (by decide +kernel)
theorem dX21_prepare_40 : decode cX21_prepare 40 = .ok (.aload_n 1, 1) := dc_43 (by decide +kernel)
theorem dX21_prepare_41 : decode cX21_prepare 41 = .ok (.sipush 259, 3) := dc_17 (a := 1) (b := 3) (v := 259) (by decide +kernel)
theorem dX21_prepare_44 : decode cX21_prepare 44 = .ok (.iaload, 1) := dc_46 (by decide +kernel)
theorem dX21_prepare_45 : decode cX21_prepare 45 = .ok (.invokevirtual 69, 3) := dc_182 (a := 0) (b := 69) (n := 69) (by decide +kernel)
theorem dX21_prepare_48 : decode cX21_prepare 48 = .ok (.aload_n 0, 1) := dc_42 (by decide +kernel)
theorem dX21_prepare_49 : decode cX21_prepare 49 = .ok (.iconst 4, 1) := dc_7 (by decide +kernel)
theorem dX21_prepare_50 : decode cX21_prepare 50 = .ok (.aload_n 1, 1) := dc_43 (by decide +kernel)
theorem dX21_prepare_51 : decode cX21_prepare 51 = .ok (.sipush 260, 3) := dc_17 (a := 1) (b := 4) (v := 260) (by decide +kernel)
theorem dX21_prepare_54 : decode cX21_prepare 54 = .ok (.iaload, 1) := dc_46 (by decide +kernel)
theorem dX21_prepare_55 : decode cX21_prepare 55 = .ok (.invokevirtual 69, 3) := dc_182 (a := 0) (b := 69) (n := 69) (by decide +kernel)
theorem dX21_prepare_58 : decode cX21_prepare 58 = .ok (.aload_n 0, 1) := dc_42 (by decide +kernel)
theorem dX21_prepare_59 : decode cX21_prepare 59 = .ok (.iconst 5, 1) := dc_8 (by decide +kernel)
theorem dX21_prepare_60 : decode cX21_prepare 60 = .ok (.aload_n 1, 1) := dc_43 (by decide +kernel)
theorem dX21_prepare_61 : decode cX21_prepare 61 = .ok (.sipush 266, 3) := dc_17 (a := 1) (b := 10) (v := 266) (by decide +kernel)
theorem dX21_prepare_64 : decode cX21_prepare 64 = .ok (.iaload, 1) := dc_46 (by decide +kernel)
theorem dX21_prepare_65 : decode cX21_prepare 65 = .ok (.invokevirtual 69, 3) := dc_182 (a := 0) (b := 69) (n := 69) (by decide +kernel)
theorem dX21_prepare_68 : decode cX21_prepare 68 = .ok (.aload_n 0, 1) := dc_42 (by decide +kernel)
theorem dX21_prepare_69 : decode cX21_prepare 69 = .ok (.bipush 6, 2) := dc_16 (a := 6) (v := 6) (by decide +kernel)
theorem dX21_prepare_71 : decode cX21_prepare 71 = .ok (.aload_n 1, 1) := dc_43 (by decide +kernel)
theorem dX21_prepare_72 : decode cX21_prepare 72 = .ok (.sipush 267, 3) := dc_17 (a := 1) (b := 11) (v := 267) (by decide +kernel)
theorem dX21_prepare_75 : decode cX21_prepare 75 = .ok (.iaload, 1) := dc_46 (by decide +kernel)
theorem dX21_prepare_76 : decode cX21_prepare 76 = .ok (.invokevirtual 69, 3) := dc_182 (a := 0) (b := 69) (n := 69) (by decide +kernel)
theorem dX21_prepare_79 : decode cX21_prepare 79 = .ok (.aload_n 0, 1) := dc_42 (by decide +kernel)
theorem dX21_prepare_80 : decode cX21_prepare 80 = .ok (.bipush 7, 2) := dc_16 (a := 7) (v := 7) (by decide +kernel)
theorem dX21_prepare_82 : decode cX21_prepare 82 = .ok (.aload_n 1, 1) := dc_43 (by decide +kernel)
theorem dX21_prepare_83 : decode cX21_prepare 83 = .ok (.sipush 265, 3) := dc_17 (a := 1) (b := 9) (v := 265) (by decide +kernel)
theorem dX21_prepare_86 : decode cX21_prepare 86 = .ok (.iaload, 1) := dc_46 (by decide +kernel)
theorem dX21_prepare_87 : decode cX21_prepare 87 = .ok (.invokevirtual 69, 3) := dc_182 (a := 0) (b := 69) (n := 69) (by decide +kernel)
theorem dX21_prepare_90 : decode cX21_prepare 90 = .ok (.aload_n 0, 1) := dc_42 (by decide +kernel)
theorem dX21_prepare_91 : decode cX21_prepare 91 = .ok (.bipush 8, 2) := dc_16 (a := 8) (v := 8) (by decide +kernel)
theorem dX21_prepare_93 : decode cX21_prepare 93 = .ok (.aload_n 1, 1) := dc_43 (by decide +kernel)
theorem dX21_prepare_94 : decode cX21_prepare 94 = .ok (.sipush 530, 3) := dc_17 (a := 2) (b := 18) (v := 530) (by decide +kernel)
theorem dX21_prepare_97 : decode cX21_prepare 97 = .ok (.iaload, 1) := dc_46 (by decide +kernel)
theorem dX21_prepare_98 : decode cX21_prepare 98 = .ok (.invokevirtual 69, 3) := dc_182 (a := 0) (b := 69) (n := 69) (by decide +kernel)
theorem dX21_prepare_101 : decode cX21_prepare 101 = .ok (.aload_n 0, 1) := dc_42 (by decide +kernel)
theorem dX21_prepare_102 : decode cX21_prepare 102 = .ok (.bipush 9, 2) := dc_16 (a := 9) (v := 9) (by decide +kernel)
theorem dX21_prepare_104 : decode cX21_prepare 104 = .ok (.aload_n 1, 1) := dc_43 (by decide +kernel)
theorem dX21_prepare_105 : decode cX21_prepare 105 = .ok (.sipush 268, 3) := dc_17 (a := 1) (b := 12) (v := 268) (by decide +kernel)
theorem dX21_prepare_108 : decode cX21_prepare 108 = .ok (.iaload, 1) := dc_46 (by decide +kernel)
theorem dX21_prepare_109 : decode cX21_prepare 109 = .ok (.invokevirtual 69, 3) := dc_182 (a := 0) (b := 69) (n := 69) (by decide +kernel)
theorem dX21_prepare_112 : decode cX21_prepare 112 = .ok (.aload_n 0, 1) := dc_42 (by decide +kernel)
theorem dX21_prepare_113 : decode cX21_prepare 113 = .ok (.getfield 29, 3) := dc_180 (a := 0) (b := 29) (n := 29) (by decide +kernel)
theorem dX21_prepare_116 : decode cX21_prepare 116 = .ok (.aload_n 1, 1) := dc_43 (by decide +kernel)
theorem dX21_prepare_117 : decode cX21_prepare 117 = .ok (.sipush 525, 3) := dc_17 (a := 2) (b := 13) (v := 525) (by decide +kernel)
theorem dX21_prepare_120 : decode cX21_prepare 120 = .ok (.iaload, 1) := dc_46 (by decide +kernel)
theorem dX21_prepare_121 : decode cX21_prepare 121 = .ok (.invokestatic 73, 3) := dc_184 (a := 0) (b := 73) (n := 73) (by decide +kernel)
theorem dX21_prepare_124 : decode cX21_prepare 124 = .ok (.iconst 0, 1) := dc_3 (by decide +kernel)
theorem dX21_prepare_125 : decode cX21_prepare 125 = .ok (.istore_n 2, 1) := dc_61 (by decide +kernel)
theorem dX21_prepare_126 : decode cX21_prepare 126 = .ok (.iload_n 2, 1) := dc_28 (by decide +kernel)
theorem dX21_prepare_127 : decode cX21_prepare 127 = .ok (.iconst 4, 1) := dc_7 (by decide +kernel)
theorem dX21_prepare_128 : decode cX21_prepare 128 = .ok (.if_icmp .ge 53, 3) := dc_162 (a := 0) (b := 53) (v := 53) (by decide +kernel)
theorem dX21_prepare_131 : decode cX21_prepare 131 = .ok (.aload_n 0, 1) := dc_42 (by decide +kernel)
theorem dX21_prepare_132 : decode cX21_prepare 132 = .ok (.getfield 32, 3) := dc_180 (a := 0) (b := 32) (n := 32) (by decide +kernel)
theorem dX21_prepare_135 : decode cX21_prepare 135 = .ok (.iload_n 2, 1) := dc_28 (by decide +kernel)
theorem dX21_prepare_136 : decode cX21_prepare 136 = .ok (.aload_n 1, 1) := dc_43 (by decide +kernel)
theorem dX21_prepare_137 : decode cX21_prepare 137 = .ok (.sipush 1571, 3) := dc_17 (a := 6) (b := 35) (v := 1571) (by decide +kernel)
theorem dX21_prepare_140 : decode cX21_prepare 140 = .ok (.iload_n 2, 1) := dc_28 (by decide +kernel)
theorem dX21_prepare_141 : decode cX21_prepare 141 = .ok (.iadd, 1) := dc_96 (by decide +kernel)
theorem dX21_prepare_142 : decode cX21_prepare 142 = .ok (.iaload, 1) := dc_46 (by decide +kernel)
theorem dX21_prepare_143 : decode cX21_prepare 143 = .ok (.iastore, 1) := dc_79 (by decide +kernel)
theorem dX21_prepare_144 : decode cX21_prepare 144 = .ok (.aload_n 0, 1) := dc_42 (by decide +kernel)
theorem dX21_prepare_145 : decode cX21_prepare 145 = .ok (.getfield 32, 3) := dc_180 (a := 0) (b := 32) (n := 32) (by decide +kernel)
theorem dX21_prepare_148 : decode cX21_prepare 148 = .ok (.iconst 4, 1) := dc_7 (by decide +kernel)
theorem dX21_prepare_149 : decode cX21_prepare 149 = .ok (.iload_n 2, 1) := dc_28 (by decide +kernel)
theorem dX21_prepare_150 : decode cX21_prepare 150 = .ok (.iadd, 1) := dc_96 (by decide +kernel)
theorem dX21_prepare_151 : decode cX21_prepare 151 = .ok (.aload_n 1, 1) := dc_43 (by decide +kernel)
theorem dX21_prepare_152 : decode cX21_prepare 152 = .ok (.sipush 1575, 3) := dc_17 (a := 6) (b := 39) (v := 1575) (by decide +kernel)
theorem dX21_prepare_155 : decode cX21_prepare 155 = .ok (.iload_n 2, 1) := dc_28 (by decide +kernel)
theorem dX21_prepare_156 : decode cX21_prepare 156 = .ok (.iadd, 1) := dc_96 (by decide +kernel)
theorem dX21_prepare_157 : decode cX21_prepare 157 = .ok (.iaload, 1) := dc_46 (by decide +kernel)
theorem dX21_prepare_158 : decode cX21_prepare 158 = .ok (.iastore, 1) := dc_79 (by decide +kernel)
theorem dX21_prepare_159 : decode cX21_prepare 159 = .ok (.aload_n 0, 1) := dc_42 (by decide +kernel)
theorem dX21_prepare_160 : decode cX21_prepare 160 = .ok (.getfield 32, 3) := dc_180 (a := 0) (b := 32) (n := 32) (by decide +kernel)
theorem dX21_prepare_163 : decode cX21_prepare 163 = .ok (.bipush 8, 2) := dc_16 (a := 8) (v := 8) (by decide +kernel)
theorem dX21_prepare_165 : decode cX21_prepare 165 = .ok (.iload_n 2, 1) := dc_28 (by decide +kernel)
theorem dX21_prepare_166 : decode cX21_prepare 166 = .ok (.iadd, 1) := dc_96 (by decide +kernel)
theorem dX21_prepare_167 : decode cX21_prepare 167 = .ok (.aload_n 1, 1) := dc_43 (by decide +kernel)
theorem dX21_prepare_168 : decode cX21_prepare 168 = .ok (.sipush 1579, 3) := dc_17 (a := 6) (b := 43) (v := 1579) (by decide +kernel)
theorem dX21_prepare_171 : decode cX21_prepare 171 = .ok (.iload_n 2, 1) := dc_28 (by decide +kernel)
theorem dX21_prepare_172 : decode cX21_prepare 172 = .ok (.iadd, 1) := dc_96 (by decide +kernel)
theorem dX21_prepare_173 : decode cX21_prepare 173 = .ok (.iaload, 1) := dc_46 (by decide +kernel)
theorem dX21_prepare_174 : decode cX21_prepare 174 = .ok (.iastore, 1) := dc_79 (by decide +kernel)
theorem dX21_prepare_175 : decode cX21_prepare 175 = .ok (.iinc 2 1, 3) := dc_132 (a := 2) (b := 1) (v := 1) (by decide +kernel)
theorem dX21_prepare_178 : decode cX21_prepare 178 = .ok (.goto (-52), 3) := dc_167 (a := 255) (b := 204) (v := -52) (by decide +kernel)
theorem dX21_prepare_181 : decode cX21_prepare 181 = .ok (.return_, 1) := dc_177 (by decide +kernel)
theorem GX21_32 {w : eW} {d : Nat} {Y : eY} {pc : Nat} {ls : eL} {st : List Value} {h : eH} {Q : eO → eH → Prop} {a : Nat} {x : Nat} (hf : g_A 20 h a 4 = some x) (hd : decode Y.2.1 pc = .ok (.getfield 32, 3)) (hY : Y.1.cls = RX21) (kk : wp w d Y (pc + 3) ls (.ref x :: st) h Q) : wp w d Y pc ls (.ref a :: st) h Q := x_gA (ci := 20) (k := 4) hf hd rfl (by decide) (by rw [hY]; exact q1452) kk
theorem SX21_65 {w : eW} {d : Nat} {Y : eY} {pc : Nat} {ls : eL} {st : List Value} {h : eH} {Q : eO → eH → Prop} {a : Nat} {h' : eH} {x : Int32} (hf : p_V 21 h a 5 (.int x) = some h') (hd : decode Y.2.1 pc = .ok (.putfield 65, 3)) (hY : Y.1.cls = RX21) (kk : wp w d Y (pc + 3) ls st h' Q) : wp w d Y pc ls (.int x :: .ref a :: st) h Q := x_pIN (ci := 21) (k := 5) hf hd rfl (by decide) (by rw [hY]; exact q1261) rfl rfl kk
def fX21_prepare_b126 (N : Nat) : Nat → Nat → Nat → Int32 → eH → Option (Unit × eH)
  | 0, _, _, _, _ => none
  | n + 1, l0, l1, l2, h =>
    if (4 : Int32) ≤ l2 then
      some ((), h)
    else
      (g_A 20 h l0 4).bind fun a2 =>
      (r_I 100 h l1 ((1571 : Int32) + l2)).bind fun x4 =>
      (q_V 100 h a2 l2 (.int x4)).bind fun h6 =>
      (g_A 20 h6 l0 4).bind fun a8 =>
      (r_I 100 h6 l1 ((1575 : Int32) + l2)).bind fun x10 =>
      (q_V 100 h6 a8 ((4 : Int32) + l2) (.int x10)).bind fun h12 =>
      (g_A 20 h12 l0 4).bind fun a14 =>
      (r_I 100 h12 l1 ((1579 : Int32) + l2)).bind fun x16 =>
      (q_V 100 h12 a14 ((8 : Int32) + l2) (.int x16)).bind fun h18 =>
      fX21_prepare_b126 N n l0 l1 (l2 + (1 : Int32)) h18
theorem pX21_prepare_b126 {w : eW} {d : Nat} (hd : 2 ≤ d + 1) {N : Nat} : ∀ (n : Nat) l0 l1 l2 h q, fX21_prepare_b126 N n l0 l1 l2 h = some q → wp w (d + 1) YX21_prepare 126 [some (.ref l0), some (.ref l1), some (.int l2)] [] h (e_is (e_rn c_V q)) := by
  intro n
  induction n with
  | zero => intro l0 l1 l2 h q hf; simp [fX21_prepare_b126] at hf
  | succ n ih =>
    intro l0 l1 l2 h q hf
    rw [fX21_prepare_b126] at hf
    refine w_iload_n dX21_prepare_126 rfl rfl ?_
    refine w_iconst dX21_prepare_127 (v := 4) (by decide) ?_
    refine w_icmp_ge 181 dX21_prepare_128 (by decide) (fun c1 => ?_) (fun c1 => ?_)
    · replace hf := (if_pos (show (4 : Int32) ≤ l2 from c1)).symm.trans hf
      cases hf
      exact w_vret dX21_prepare_181 rfl rfl
    · replace hf := (if_neg (show ¬ ((4 : Int32) ≤ l2) from c1)).symm.trans hf
      refine w_aload_n dX21_prepare_131 rfl rfl ?_
      obtain ⟨a2, b3, hf⟩ := Option.bind_eq_some_iff.mp hf
      refine GX21_32 b3 dX21_prepare_132 rfl ?_
      refine w_iload_n dX21_prepare_135 rfl rfl ?_
      refine w_aload_n dX21_prepare_136 rfl rfl ?_
      refine w_sipush dX21_prepare_137 (v := 1571) (by decide) ?_
      refine w_iload_n dX21_prepare_140 rfl rfl ?_
      refine w_iadd dX21_prepare_141 ?_
      obtain ⟨x4, b5, hf⟩ := Option.bind_eq_some_iff.mp hf
      refine x_rI b5 dX21_prepare_142 ?_
      obtain ⟨h6, b7, hf⟩ := Option.bind_eq_some_iff.mp hf
      refine x_qI b7 dX21_prepare_143 ?_
      refine w_aload_n dX21_prepare_144 rfl rfl ?_
      obtain ⟨a8, b9, hf⟩ := Option.bind_eq_some_iff.mp hf
      refine GX21_32 b9 dX21_prepare_145 rfl ?_
      refine w_iconst dX21_prepare_148 (v := 4) (by decide) ?_
      refine w_iload_n dX21_prepare_149 rfl rfl ?_
      refine w_iadd dX21_prepare_150 ?_
      refine w_aload_n dX21_prepare_151 rfl rfl ?_
      refine w_sipush dX21_prepare_152 (v := 1575) (by decide) ?_
      refine w_iload_n dX21_prepare_155 rfl rfl ?_
      refine w_iadd dX21_prepare_156 ?_
      obtain ⟨x10, b11, hf⟩ := Option.bind_eq_some_iff.mp hf
      refine x_rI b11 dX21_prepare_157 ?_
      obtain ⟨h12, b13, hf⟩ := Option.bind_eq_some_iff.mp hf
      refine x_qI b13 dX21_prepare_158 ?_
      refine w_aload_n dX21_prepare_159 rfl rfl ?_
      obtain ⟨a14, b15, hf⟩ := Option.bind_eq_some_iff.mp hf
      refine GX21_32 b15 dX21_prepare_160 rfl ?_
      refine w_bipush dX21_prepare_163 (v := 8) (by decide) ?_
      refine w_iload_n dX21_prepare_165 rfl rfl ?_
      refine w_iadd dX21_prepare_166 ?_
      refine w_aload_n dX21_prepare_167 rfl rfl ?_
      refine w_sipush dX21_prepare_168 (v := 1579) (by decide) ?_
      refine w_iload_n dX21_prepare_171 rfl rfl ?_
      refine w_iadd dX21_prepare_172 ?_
      obtain ⟨x16, b17, hf⟩ := Option.bind_eq_some_iff.mp hf
      refine x_rI b17 dX21_prepare_173 ?_
      obtain ⟨h18, b19, hf⟩ := Option.bind_eq_some_iff.mp hf
      refine x_qI b19 dX21_prepare_174 ?_
      refine w_iinc dX21_prepare_175 (v := (l2 + (1 : Int32))) rfl rfl (by decide) (ls' := [some (.ref l0), some (.ref l1), some (.int (l2 + (1 : Int32)))]) rfl ?_
      refine w_goto 126 dX21_prepare_178 (by decide) ?_
      exact (ih _ _ _ _ _ hf).to ⟨rfl, rfl, rfl, trivial⟩
def fX21_prepare (N : Nat) (this : Nat) (p0 : Nat) (h : eH) : Option (Unit × eH) :=
  (g_A 20 h this 0).bind fun a1 =>
  (p_V 21 h a1 5 (.int (0 : Int32))).bind fun h3 =>
  (r_I 100 h3 p0 (256 : Int32)).bind fun x5 =>
  (k_ok 20 h3 this).bind fun _ =>
  (fX21_want this (0 : Int32) x5 h3).bind fun q8 =>
  (r_I 100 q8.2 p0 (257 : Int32)).bind fun x9 =>
  (k_ok 20 q8.2 this).bind fun _ =>
  (fX21_want this (1 : Int32) x9 q8.2).bind fun q12 =>
  (r_I 100 q12.2 p0 (258 : Int32)).bind fun x13 =>
  (k_ok 20 q12.2 this).bind fun _ =>
  (fX21_want this (2 : Int32) x13 q12.2).bind fun q16 =>
  (r_I 100 q16.2 p0 (259 : Int32)).bind fun x17 =>
  (k_ok 20 q16.2 this).bind fun _ =>
  (fX21_want this (3 : Int32) x17 q16.2).bind fun q20 =>
  (r_I 100 q20.2 p0 (260 : Int32)).bind fun x21 =>
  (k_ok 20 q20.2 this).bind fun _ =>
  (fX21_want this (4 : Int32) x21 q20.2).bind fun q24 =>
  (r_I 100 q24.2 p0 (266 : Int32)).bind fun x25 =>
  (k_ok 20 q24.2 this).bind fun _ =>
  (fX21_want this (5 : Int32) x25 q24.2).bind fun q28 =>
  (r_I 100 q28.2 p0 (267 : Int32)).bind fun x29 =>
  (k_ok 20 q28.2 this).bind fun _ =>
  (fX21_want this (6 : Int32) x29 q28.2).bind fun q32 =>
  (r_I 100 q32.2 p0 (265 : Int32)).bind fun x33 =>
  (k_ok 20 q32.2 this).bind fun _ =>
  (fX21_want this (7 : Int32) x33 q32.2).bind fun q36 =>
  (r_I 100 q36.2 p0 (530 : Int32)).bind fun x37 =>
  (k_ok 20 q36.2 this).bind fun _ =>
  (fX21_want this (8 : Int32) x37 q36.2).bind fun q40 =>
  (r_I 100 q40.2 p0 (268 : Int32)).bind fun x41 =>
  (k_ok 20 q40.2 this).bind fun _ =>
  (fX21_want this (9 : Int32) x41 q40.2).bind fun q44 =>
  (g_A 20 q44.2 this 3).bind fun a45 =>
  (r_I 100 q44.2 p0 (525 : Int32)).bind fun x47 =>
  (fJ0_fill N a45 x47 q44.2).bind fun q49 =>
  fX21_prepare_b126 N N this p0 (0 : Int32) q49.2
theorem pX21_prepare {w : eW} {d : Nat} (hd : 2 ≤ d) {N : Nat} {this : Nat} {p0 : Nat} {h : eH} {q} (hf : fX21_prepare N this p0 h = some q) : wm w d YX21_prepare [.ref this, .ref p0] h (e_is (e_rn c_V q)) := by
  obtain ⟨d, rfl⟩ : ∃ e, d = e + 1 := ⟨d - 1, by omega⟩
  show wp w (d + 1) YX21_prepare 0 [some (.ref this), some (.ref p0), none] [] h _
  unfold fX21_prepare at hf
  refine w_aload_n dX21_prepare_0 rfl rfl ?_
  obtain ⟨a1, b2, hf⟩ := Option.bind_eq_some_iff.mp hf
  refine GX21_12 b2 dX21_prepare_1 rfl ?_
  refine w_iconst dX21_prepare_4 (v := 0) (by decide) ?_
  obtain ⟨h3, b4, hf⟩ := Option.bind_eq_some_iff.mp hf
  refine SX21_65 b4 dX21_prepare_5 rfl ?_
  refine w_aload_n dX21_prepare_8 rfl rfl ?_
  refine w_iconst dX21_prepare_9 (v := 0) (by decide) ?_
  refine w_aload_n dX21_prepare_10 rfl rfl ?_
  refine w_sipush dX21_prepare_11 (v := 256) (by decide) ?_
  obtain ⟨x5, b6, hf⟩ := Option.bind_eq_some_iff.mp hf
  refine x_rI b6 dX21_prepare_14 ?_
  obtain ⟨_, b7, hf⟩ := Option.bind_eq_some_iff.mp hf
  refine x_cnV hf (e_stV (Yc := YX21_want) (ci := 20) (av := [.int (0 : Int32), .int x5]) (st := []) dX21_prepare_15 q3678 mX21_want rfl (k_ok_some b7).1 (k_ok_some b7).2) mX21_want.2.2.1 mX21_want.2.2.2.2.1 (Nat.le_of_ble_eq_true rfl) (Nat.le_of_ble_eq_true rfl) (fun q hq => pX21_want (by omega) hq) (fun q8 hf => ?_)
  refine w_aload_n dX21_prepare_18 rfl rfl ?_
  refine w_iconst dX21_prepare_19 (v := 1) (by decide) ?_
  refine w_aload_n dX21_prepare_20 rfl rfl ?_
  refine w_sipush dX21_prepare_21 (v := 257) (by decide) ?_
  obtain ⟨x9, b10, hf⟩ := Option.bind_eq_some_iff.mp hf
  refine x_rI b10 dX21_prepare_24 ?_
  obtain ⟨_, b11, hf⟩ := Option.bind_eq_some_iff.mp hf
  refine x_cnV hf (e_stV (Yc := YX21_want) (ci := 20) (av := [.int (1 : Int32), .int x9]) (st := []) dX21_prepare_25 q3678 mX21_want rfl (k_ok_some b11).1 (k_ok_some b11).2) mX21_want.2.2.1 mX21_want.2.2.2.2.1 (Nat.le_of_ble_eq_true rfl) (Nat.le_of_ble_eq_true rfl) (fun q hq => pX21_want (by omega) hq) (fun q12 hf => ?_)
  refine w_aload_n dX21_prepare_28 rfl rfl ?_
  refine w_iconst dX21_prepare_29 (v := 2) (by decide) ?_
  refine w_aload_n dX21_prepare_30 rfl rfl ?_
  refine w_sipush dX21_prepare_31 (v := 258) (by decide) ?_
  obtain ⟨x13, b14, hf⟩ := Option.bind_eq_some_iff.mp hf
  refine x_rI b14 dX21_prepare_34 ?_
  obtain ⟨_, b15, hf⟩ := Option.bind_eq_some_iff.mp hf
  refine x_cnV hf (e_stV (Yc := YX21_want) (ci := 20) (av := [.int (2 : Int32), .int x13]) (st := []) dX21_prepare_35 q3678 mX21_want rfl (k_ok_some b15).1 (k_ok_some b15).2) mX21_want.2.2.1 mX21_want.2.2.2.2.1 (Nat.le_of_ble_eq_true rfl) (Nat.le_of_ble_eq_true rfl) (fun q hq => pX21_want (by omega) hq) (fun q16 hf => ?_)
  refine w_aload_n dX21_prepare_38 rfl rfl ?_
  refine w_iconst dX21_prepare_39 (v := 3) (by decide) ?_
  refine w_aload_n dX21_prepare_40 rfl rfl ?_
  refine w_sipush dX21_prepare_41 (v := 259) (by decide) ?_
  obtain ⟨x17, b18, hf⟩ := Option.bind_eq_some_iff.mp hf
  refine x_rI b18 dX21_prepare_44 ?_
  obtain ⟨_, b19, hf⟩ := Option.bind_eq_some_iff.mp hf
  refine x_cnV hf (e_stV (Yc := YX21_want) (ci := 20) (av := [.int (3 : Int32), .int x17]) (st := []) dX21_prepare_45 q3678 mX21_want rfl (k_ok_some b19).1 (k_ok_some b19).2) mX21_want.2.2.1 mX21_want.2.2.2.2.1 (Nat.le_of_ble_eq_true rfl) (Nat.le_of_ble_eq_true rfl) (fun q hq => pX21_want (by omega) hq) (fun q20 hf => ?_)
  refine w_aload_n dX21_prepare_48 rfl rfl ?_
  refine w_iconst dX21_prepare_49 (v := 4) (by decide) ?_
  refine w_aload_n dX21_prepare_50 rfl rfl ?_
  refine w_sipush dX21_prepare_51 (v := 260) (by decide) ?_
  obtain ⟨x21, b22, hf⟩ := Option.bind_eq_some_iff.mp hf
  refine x_rI b22 dX21_prepare_54 ?_
  obtain ⟨_, b23, hf⟩ := Option.bind_eq_some_iff.mp hf
  refine x_cnV hf (e_stV (Yc := YX21_want) (ci := 20) (av := [.int (4 : Int32), .int x21]) (st := []) dX21_prepare_55 q3678 mX21_want rfl (k_ok_some b23).1 (k_ok_some b23).2) mX21_want.2.2.1 mX21_want.2.2.2.2.1 (Nat.le_of_ble_eq_true rfl) (Nat.le_of_ble_eq_true rfl) (fun q hq => pX21_want (by omega) hq) (fun q24 hf => ?_)
  refine w_aload_n dX21_prepare_58 rfl rfl ?_
  refine w_iconst dX21_prepare_59 (v := 5) (by decide) ?_
  refine w_aload_n dX21_prepare_60 rfl rfl ?_
  refine w_sipush dX21_prepare_61 (v := 266) (by decide) ?_
  obtain ⟨x25, b26, hf⟩ := Option.bind_eq_some_iff.mp hf
  refine x_rI b26 dX21_prepare_64 ?_
  obtain ⟨_, b27, hf⟩ := Option.bind_eq_some_iff.mp hf
  refine x_cnV hf (e_stV (Yc := YX21_want) (ci := 20) (av := [.int (5 : Int32), .int x25]) (st := []) dX21_prepare_65 q3678 mX21_want rfl (k_ok_some b27).1 (k_ok_some b27).2) mX21_want.2.2.1 mX21_want.2.2.2.2.1 (Nat.le_of_ble_eq_true rfl) (Nat.le_of_ble_eq_true rfl) (fun q hq => pX21_want (by omega) hq) (fun q28 hf => ?_)
  refine w_aload_n dX21_prepare_68 rfl rfl ?_
  refine w_bipush dX21_prepare_69 (v := 6) (by decide) ?_
  refine w_aload_n dX21_prepare_71 rfl rfl ?_
  refine w_sipush dX21_prepare_72 (v := 267) (by decide) ?_
  obtain ⟨x29, b30, hf⟩ := Option.bind_eq_some_iff.mp hf
  refine x_rI b30 dX21_prepare_75 ?_
  obtain ⟨_, b31, hf⟩ := Option.bind_eq_some_iff.mp hf
  refine x_cnV hf (e_stV (Yc := YX21_want) (ci := 20) (av := [.int (6 : Int32), .int x29]) (st := []) dX21_prepare_76 q3678 mX21_want rfl (k_ok_some b31).1 (k_ok_some b31).2) mX21_want.2.2.1 mX21_want.2.2.2.2.1 (Nat.le_of_ble_eq_true rfl) (Nat.le_of_ble_eq_true rfl) (fun q hq => pX21_want (by omega) hq) (fun q32 hf => ?_)
  refine w_aload_n dX21_prepare_79 rfl rfl ?_
  refine w_bipush dX21_prepare_80 (v := 7) (by decide) ?_
  refine w_aload_n dX21_prepare_82 rfl rfl ?_
  refine w_sipush dX21_prepare_83 (v := 265) (by decide) ?_
  obtain ⟨x33, b34, hf⟩ := Option.bind_eq_some_iff.mp hf
  refine x_rI b34 dX21_prepare_86 ?_
  obtain ⟨_, b35, hf⟩ := Option.bind_eq_some_iff.mp hf
  refine x_cnV hf (e_stV (Yc := YX21_want) (ci := 20) (av := [.int (7 : Int32), .int x33]) (st := []) dX21_prepare_87 q3678 mX21_want rfl (k_ok_some b35).1 (k_ok_some b35).2) mX21_want.2.2.1 mX21_want.2.2.2.2.1 (Nat.le_of_ble_eq_true rfl) (Nat.le_of_ble_eq_true rfl) (fun q hq => pX21_want (by omega) hq) (fun q36 hf => ?_)
  refine w_aload_n dX21_prepare_90 rfl rfl ?_
  refine w_bipush dX21_prepare_91 (v := 8) (by decide) ?_
  refine w_aload_n dX21_prepare_93 rfl rfl ?_
  refine w_sipush dX21_prepare_94 (v := 530) (by decide) ?_
  obtain ⟨x37, b38, hf⟩ := Option.bind_eq_some_iff.mp hf
  refine x_rI b38 dX21_prepare_97 ?_
  obtain ⟨_, b39, hf⟩ := Option.bind_eq_some_iff.mp hf
  refine x_cnV hf (e_stV (Yc := YX21_want) (ci := 20) (av := [.int (8 : Int32), .int x37]) (st := []) dX21_prepare_98 q3678 mX21_want rfl (k_ok_some b39).1 (k_ok_some b39).2) mX21_want.2.2.1 mX21_want.2.2.2.2.1 (Nat.le_of_ble_eq_true rfl) (Nat.le_of_ble_eq_true rfl) (fun q hq => pX21_want (by omega) hq) (fun q40 hf => ?_)
  refine w_aload_n dX21_prepare_101 rfl rfl ?_
  refine w_bipush dX21_prepare_102 (v := 9) (by decide) ?_
  refine w_aload_n dX21_prepare_104 rfl rfl ?_
  refine w_sipush dX21_prepare_105 (v := 268) (by decide) ?_
  obtain ⟨x41, b42, hf⟩ := Option.bind_eq_some_iff.mp hf
  refine x_rI b42 dX21_prepare_108 ?_
  obtain ⟨_, b43, hf⟩ := Option.bind_eq_some_iff.mp hf
  refine x_cnV hf (e_stV (Yc := YX21_want) (ci := 20) (av := [.int (9 : Int32), .int x41]) (st := []) dX21_prepare_109 q3678 mX21_want rfl (k_ok_some b43).1 (k_ok_some b43).2) mX21_want.2.2.1 mX21_want.2.2.2.2.1 (Nat.le_of_ble_eq_true rfl) (Nat.le_of_ble_eq_true rfl) (fun q hq => pX21_want (by omega) hq) (fun q44 hf => ?_)
  refine w_aload_n dX21_prepare_112 rfl rfl ?_
  obtain ⟨a45, b46, hf⟩ := Option.bind_eq_some_iff.mp hf
  refine GX21_29 b46 dX21_prepare_113 rfl ?_
  refine w_aload_n dX21_prepare_116 rfl rfl ?_
  refine w_sipush dX21_prepare_117 (v := 525) (by decide) ?_
  obtain ⟨x47, b48, hf⟩ := Option.bind_eq_some_iff.mp hf
  refine x_rI b48 dX21_prepare_120 ?_
  refine x_cnV hf (e_stS (Yc := YJ0_fill) (av := [.ref a45, .int x47]) (st := []) dX21_prepare_121 q3688 mJ0_fill) mJ0_fill.2.2.1 mJ0_fill.2.2.2.2.1 (Nat.le_of_ble_eq_true rfl) (Nat.le_of_ble_eq_true rfl) (fun q hq => pJ0_fill (by omega) hq) (fun q49 hf => ?_)
  refine w_iconst dX21_prepare_124 (v := 0) (by decide) ?_
  refine w_istore_n dX21_prepare_125 rfl (by decide) (ls' := [some (.ref this), some (.ref p0), some (.int (0 : Int32))]) rfl ?_
  exact (pX21_prepare_b126 hd N _ _ _ _ _ hf).to ⟨rfl, rfl, rfl, trivial⟩
abbrev cX22_add : ByteArray := prog_23_method_2_code
def yX22_add : MethodName := ⟨RX22, "add", "(IIIII)I"⟩
def YX22_add : eY := (yX22_add, cX22_add, 6, (Option.some FieldType.int), [])
theorem mX22_add : e_mv YX22_add RX22 5 := ⟨q3694, q3695, q3696, by decide, by decide +kernel, (e_sig (by decide +kernel))⟩
theorem dX22_add_0 : decode cX22_add 0 = .ok (.aload_n 0, 1) := dc_42 (by decide +kernel)
theorem dX22_add_1 : decode cX22_add 1 = .ok (.getfield 9, 3) := dc_180 (a := 0) (b := 9) (n := 9) (by decide +kernel)
theorem dX22_add_4 : decode cX22_add 4 = .ok (.aload_n 0, 1) := dc_42 (by decide +kernel)
theorem dX22_add_5 : decode cX22_add 5 = .ok (.getfield 28, 3) := dc_180 (a := 0) (b := 28) (n := 28) (by decide +kernel)
theorem dX22_add_8 : decode cX22_add 8 = .ok (.iload_n 1, 1) := dc_27 (by decide +kernel)
theorem dX22_add_9 : decode cX22_add 9 = .ok (.i2b, 1) := dc_145 (by decide +kernel)
theorem dX22_add_10 : decode cX22_add 10 = .ok (.bastore, 1) := dc_84 (by decide +kernel)
theorem dX22_add_11 : decode cX22_add 11 = .ok (.aload_n 0, 1) := dc_42 (by decide +kernel)
theorem dX22_add_12 : decode cX22_add 12 = .ok (.getfield 15, 3) := dc_180 (a := 0) (b := 15) (n := 15) (by decide +kernel)
theorem dX22_add_15 : decode cX22_add 15 = .ok (.aload_n 0, 1) := dc_42 (by decide +kernel)
theorem dX22_add_16 : decode cX22_add 16 = .ok (.getfield 28, 3) := dc_180 (a := 0) (b := 28) (n := 28) (by decide +kernel)
theorem dX22_add_19 : decode cX22_add 19 = .ok (.iload_n 2, 1) := dc_28 (by decide +kernel)
theorem dX22_add_20 : decode cX22_add 20 = .ok (.iastore, 1) := dc_79 (by decide +kernel)
theorem dX22_add_21 : decode cX22_add 21 = .ok (.aload_n 0, 1) := dc_42 (by decide +kernel)
theorem dX22_add_22 : decode cX22_add 22 = .ok (.getfield 19, 3) := dc_180 (a := 0) (b := 19) (n := 19) (by decide +kernel)
theorem dX22_add_25 : decode cX22_add 25 = .ok (.aload_n 0, 1) := dc_42 (by decide +kernel)
theorem dX22_add_26 : decode cX22_add 26 = .ok (.getfield 28, 3) := dc_180 (a := 0) (b := 28) (n := 28) (by decide +kernel)
theorem dX22_add_29 : decode cX22_add 29 = .ok (.iload_n 3, 1) := dc_29 (by decide +kernel)
theorem dX22_add_30 : decode cX22_add 30 = .ok (.iastore, 1) := dc_79 (by decide +kernel)
theorem dX22_add_31 : decode cX22_add 31 = .ok (.aload_n 0, 1) := dc_42 (by decide +kernel)
theorem dX22_add_32 : decode cX22_add 32 = .ok (.getfield 22, 3) := dc_180 (a := 0) (b := 22) (n := 22) (by decide +kernel)
theorem dX22_add_35 : decode cX22_add 35 = .ok (.aload_n 0, 1) := dc_42 (by decide +kernel)
theorem dX22_add_36 : decode cX22_add 36 = .ok (.getfield 28, 3) := dc_180 (a := 0) (b := 28) (n := 28) (by decide +kernel)
theorem dX22_add_39 : decode cX22_add 39 = .ok (.iload 4, 2) := dc_21 (a := 4) (by decide +kernel)
theorem dX22_add_41 : decode cX22_add 41 = .ok (.iastore, 1) := dc_79 (by decide +kernel)
theorem dX22_add_42 : decode cX22_add 42 = .ok (.aload_n 0, 1) := dc_42 (by decide +kernel)
theorem dX22_add_43 : decode cX22_add 43 = .ok (.getfield 25, 3) := dc_180 (a := 0) (b := 25) (n := 25) (by decide +kernel)
theorem dX22_add_46 : decode cX22_add 46 = .ok (.aload_n 0, 1) := dc_42 (by decide +kernel)
theorem dX22_add_47 : decode cX22_add 47 = .ok (.getfield 28, 3) := dc_180 (a := 0) (b := 28) (n := 28) (by decide +kernel)
theorem dX22_add_50 : decode cX22_add 50 = .ok (.iload 5, 2) := dc_21 (a := 5) (by decide +kernel)
theorem dX22_add_52 : decode cX22_add 52 = .ok (.iastore, 1) := dc_79 (by decide +kernel)
theorem dX22_add_53 : decode cX22_add 53 = .ok (.aload_n 0, 1) := dc_42 (by decide +kernel)
theorem dX22_add_54 : decode cX22_add 54 = .ok (.dup, 1) := dc_89 (by decide +kernel)
theorem dX22_add_55 : decode cX22_add 55 = .ok (.getfield 28, 3) := dc_180 (a := 0) (b := 28) (n := 28) (by decide +kernel)
theorem dX22_add_58 : decode cX22_add 58 = .ok (.dup_x1, 1) := dc_90 (by decide +kernel)
theorem dX22_add_59 : decode cX22_add 59 = .ok (.iconst 1, 1) := dc_4 (by decide +kernel)
theorem dX22_add_60 : decode cX22_add 60 = .ok (.iadd, 1) := dc_96 (by decide +kernel)
theorem dX22_add_61 : decode cX22_add 61 = .ok (.putfield 28, 3) := dc_181 (a := 0) (b := 28) (n := 28) (by decide +kernel)
theorem dX22_add_64 : decode cX22_add 64 = .ok (.ireturn, 1) := dc_172 (by decide +kernel)
theorem GX22_15 {w : eW} {d : Nat} {Y : eY} {pc : Nat} {ls : eL} {st : List Value} {h : eH} {Q : eO → eH → Prop} {a : Nat} {x : Nat} (hf : g_A 21 h a 1 = some x) (hd : decode Y.2.1 pc = .ok (.getfield 15, 3)) (hY : Y.1.cls = RX22) (kk : wp w d Y (pc + 3) ls (.ref x :: st) h Q) : wp w d Y pc ls (.ref a :: st) h Q := x_gA (ci := 21) (k := 1) hf hd rfl (by decide) (by rw [hY]; exact q1247) kk
theorem GX22_19 {w : eW} {d : Nat} {Y : eY} {pc : Nat} {ls : eL} {st : List Value} {h : eH} {Q : eO → eH → Prop} {a : Nat} {x : Nat} (hf : g_A 21 h a 2 = some x) (hd : decode Y.2.1 pc = .ok (.getfield 19, 3)) (hY : Y.1.cls = RX22) (kk : wp w d Y (pc + 3) ls (.ref x :: st) h Q) : wp w d Y pc ls (.ref a :: st) h Q := x_gA (ci := 21) (k := 2) hf hd rfl (by decide) (by rw [hY]; exact q1251) kk
theorem GX22_22 {w : eW} {d : Nat} {Y : eY} {pc : Nat} {ls : eL} {st : List Value} {h : eH} {Q : eO → eH → Prop} {a : Nat} {x : Nat} (hf : g_A 21 h a 3 = some x) (hd : decode Y.2.1 pc = .ok (.getfield 22, 3)) (hY : Y.1.cls = RX22) (kk : wp w d Y (pc + 3) ls (.ref x :: st) h Q) : wp w d Y pc ls (.ref a :: st) h Q := x_gA (ci := 21) (k := 3) hf hd rfl (by decide) (by rw [hY]; exact q1254) kk
theorem GX22_25 {w : eW} {d : Nat} {Y : eY} {pc : Nat} {ls : eL} {st : List Value} {h : eH} {Q : eO → eH → Prop} {a : Nat} {x : Nat} (hf : g_A 21 h a 4 = some x) (hd : decode Y.2.1 pc = .ok (.getfield 25, 3)) (hY : Y.1.cls = RX22) (kk : wp w d Y (pc + 3) ls (.ref x :: st) h Q) : wp w d Y pc ls (.ref a :: st) h Q := x_gA (ci := 21) (k := 4) hf hd rfl (by decide) (by rw [hY]; exact q1256) kk
theorem GX22_28 {w : eW} {d : Nat} {Y : eY} {pc : Nat} {ls : eL} {st : List Value} {h : eH} {Q : eO → eH → Prop} {a : Nat} {x : Int32} (hf : g_I 21 h a 5 = some x) (hd : decode Y.2.1 pc = .ok (.getfield 28, 3)) (hY : Y.1.cls = RX22) (kk : wp w d Y (pc + 3) ls (.int x :: st) h Q) : wp w d Y pc ls (.ref a :: st) h Q := x_gI (ci := 21) (k := 5) hf hd rfl (by decide) (by rw [hY]; exact q1259) kk
theorem GX22_9 {w : eW} {d : Nat} {Y : eY} {pc : Nat} {ls : eL} {st : List Value} {h : eH} {Q : eO → eH → Prop} {a : Nat} {x : Nat} (hf : g_A 21 h a 0 = some x) (hd : decode Y.2.1 pc = .ok (.getfield 9, 3)) (hY : Y.1.cls = RX22) (kk : wp w d Y (pc + 3) ls (.ref x :: st) h Q) : wp w d Y pc ls (.ref a :: st) h Q := x_gA (ci := 21) (k := 0) hf hd rfl (by decide) (by rw [hY]; exact q1243) kk
theorem SX22_28 {w : eW} {d : Nat} {Y : eY} {pc : Nat} {ls : eL} {st : List Value} {h : eH} {Q : eO → eH → Prop} {a : Nat} {h' : eH} {x : Int32} (hf : p_V 21 h a 5 (.int x) = some h') (hd : decode Y.2.1 pc = .ok (.putfield 28, 3)) (hY : Y.1.cls = RX22) (kk : wp w d Y (pc + 3) ls st h' Q) : wp w d Y pc ls (.int x :: .ref a :: st) h Q := x_pI (ci := 21) (k := 5) hf hd rfl (by decide) (by rw [hY]; exact q1259) rfl rfl kk
def fX22_add (this : Nat) (p0 : Int32) (p1 : Int32) (p2 : Int32) (p3 : Int32) (p4 : Int32) (h : eH) : Option (Int32 × eH) :=
  (g_A 21 h this 0).bind fun a1 =>
  (g_I 21 h this 5).bind fun x3 =>
  (q_V 102 h a1 x3 (.int ((p0).toInt8.toInt32).toInt8.toInt32)).bind fun h5 =>
  (g_A 21 h5 this 1).bind fun a7 =>
  (g_I 21 h5 this 5).bind fun x9 =>
  (q_V 100 h5 a7 x9 (.int p1)).bind fun h11 =>
  (g_A 21 h11 this 2).bind fun a13 =>
  (g_I 21 h11 this 5).bind fun x15 =>
  (q_V 100 h11 a13 x15 (.int p2)).bind fun h17 =>
  (g_A 21 h17 this 3).bind fun a19 =>
  (g_I 21 h17 this 5).bind fun x21 =>
  (q_V 100 h17 a19 x21 (.int p3)).bind fun h23 =>
  (g_A 21 h23 this 4).bind fun a25 =>
  (g_I 21 h23 this 5).bind fun x27 =>
  (q_V 100 h23 a25 x27 (.int p4)).bind fun h29 =>
  (g_I 21 h29 this 5).bind fun x31 =>
  (p_V 21 h29 this 5 (.int (x31 + (1 : Int32)))).bind fun h33 =>
  some (x31, h33)
theorem pX22_add {w : eW} {d : Nat} (hd : 0 ≤ d) {this : Nat} {p0 : Int32} {p1 : Int32} {p2 : Int32} {p3 : Int32} {p4 : Int32} {h : eH} {q} (hf : fX22_add this p0 p1 p2 p3 p4 h = some q) : wm w d YX22_add [.ref this, .int p0, .int p1, .int p2, .int p3, .int p4] h (e_is (e_rn c_I q)) := by
  show wp w d YX22_add 0 [some (.ref this), some (.int p0), some (.int p1), some (.int p2), some (.int p3), some (.int p4)] [] h _
  unfold fX22_add at hf
  refine w_aload_n dX22_add_0 rfl rfl ?_
  obtain ⟨a1, b2, hf⟩ := Option.bind_eq_some_iff.mp hf
  refine GX22_9 b2 dX22_add_1 rfl ?_
  refine w_aload_n dX22_add_4 rfl rfl ?_
  obtain ⟨x3, b4, hf⟩ := Option.bind_eq_some_iff.mp hf
  refine GX22_28 b4 dX22_add_5 rfl ?_
  refine w_iload_n dX22_add_8 rfl rfl ?_
  refine w_i2b dX22_add_9 ?_
  obtain ⟨h5, b6, hf⟩ := Option.bind_eq_some_iff.mp hf
  refine x_qB b6 dX22_add_10 ?_
  refine w_aload_n dX22_add_11 rfl rfl ?_
  obtain ⟨a7, b8, hf⟩ := Option.bind_eq_some_iff.mp hf
  refine GX22_15 b8 dX22_add_12 rfl ?_
  refine w_aload_n dX22_add_15 rfl rfl ?_
  obtain ⟨x9, b10, hf⟩ := Option.bind_eq_some_iff.mp hf
  refine GX22_28 b10 dX22_add_16 rfl ?_
  refine w_iload_n dX22_add_19 rfl rfl ?_
  obtain ⟨h11, b12, hf⟩ := Option.bind_eq_some_iff.mp hf
  refine x_qI b12 dX22_add_20 ?_
  refine w_aload_n dX22_add_21 rfl rfl ?_
  obtain ⟨a13, b14, hf⟩ := Option.bind_eq_some_iff.mp hf
  refine GX22_19 b14 dX22_add_22 rfl ?_
  refine w_aload_n dX22_add_25 rfl rfl ?_
  obtain ⟨x15, b16, hf⟩ := Option.bind_eq_some_iff.mp hf
  refine GX22_28 b16 dX22_add_26 rfl ?_
  refine w_iload_n dX22_add_29 rfl rfl ?_
  obtain ⟨h17, b18, hf⟩ := Option.bind_eq_some_iff.mp hf
  refine x_qI b18 dX22_add_30 ?_
  refine w_aload_n dX22_add_31 rfl rfl ?_
  obtain ⟨a19, b20, hf⟩ := Option.bind_eq_some_iff.mp hf
  refine GX22_22 b20 dX22_add_32 rfl ?_
  refine w_aload_n dX22_add_35 rfl rfl ?_
  obtain ⟨x21, b22, hf⟩ := Option.bind_eq_some_iff.mp hf
  refine GX22_28 b22 dX22_add_36 rfl ?_
  refine w_iload dX22_add_39 rfl ?_
  obtain ⟨h23, b24, hf⟩ := Option.bind_eq_some_iff.mp hf
  refine x_qI b24 dX22_add_41 ?_
  refine w_aload_n dX22_add_42 rfl rfl ?_
  obtain ⟨a25, b26, hf⟩ := Option.bind_eq_some_iff.mp hf
  refine GX22_25 b26 dX22_add_43 rfl ?_
  refine w_aload_n dX22_add_46 rfl rfl ?_
  obtain ⟨x27, b28, hf⟩ := Option.bind_eq_some_iff.mp hf
  refine GX22_28 b28 dX22_add_47 rfl ?_
  refine w_iload dX22_add_50 rfl ?_
  obtain ⟨h29, b30, hf⟩ := Option.bind_eq_some_iff.mp hf
  refine x_qI b30 dX22_add_52 ?_
  refine w_aload_n dX22_add_53 rfl rfl ?_
  refine w_dup dX22_add_54 rfl ?_
  obtain ⟨x31, b32, hf⟩ := Option.bind_eq_some_iff.mp hf
  refine GX22_28 b32 dX22_add_55 rfl ?_
  refine w_dup_x1 dX22_add_58 rfl rfl ?_
  refine w_iconst dX22_add_59 (v := 1) (by decide) ?_
  refine w_iadd dX22_add_60 ?_
  obtain ⟨h33, b34, hf⟩ := Option.bind_eq_some_iff.mp hf
  refine SX22_28 b34 dX22_add_61 rfl ?_
  cases hf
  exact w_iret dX22_add_64 rfl rfl rfl
