set_option maxRecDepth 100000
set_option maxHeartbeats 4000000
theorem q4243 : (Jvm.Cond.fieldLinkNest "TypeHouseModel" (886 : Nat) "TypeHouseModel$Breaker" "aroundWidth" "[I" "TypeHouseModel") ∈ lw_tbl := lw_at lw_m16 218 rfl
theorem q4245 : (Jvm.Cond.fieldLinkNest "TypeHouseModel" (889 : Nat) "TypeHouseModel$Breaker" "aroundStretch" "[I" "TypeHouseModel") ∈ lw_tbl := lw_at lw_m16 220 rfl
theorem q4247 : (Jvm.Cond.fieldLinkNest "TypeHouseModel" (892 : Nat) "TypeHouseModel$Breaker" "aroundOrder" "[I" "TypeHouseModel") ∈ lw_tbl := lw_at lw_m16 222 rfl
theorem q4249 : (Jvm.Cond.fieldLinkNest "TypeHouseModel" (895 : Nat) "TypeHouseModel$Breaker" "aroundShrink" "[I" "TypeHouseModel") ∈ lw_tbl := lw_at lw_m16 224 rfl
theorem q4395 : (Jvm.Cond.fieldLink "TypeHouseModel$Device" (66 : Nat) "TypeHouseModel$Device" "written" "I") ∈ lw_all := lw_g (lw_at lw_m17 130 rfl) rfl
theorem q4405 : (Jvm.Cond.fieldLink "TypeHouseModel$Device" (88 : Nat) "TypeHouseModel$Device" "marks" "I") ∈ lw_all := lw_g (lw_at lw_m17 140 rfl) rfl
theorem q4510 : (Jvm.Cond.fieldLink "TypeHouseModel" (285 : Nat) "TypeHouseModel" "sourceSize" "I") ∈ lw_all := lw_g (lw_at lw_m18 5 rfl) rfl
theorem q4599 : (Jvm.Cond.fieldLink "TypeHouseModel" (1049 : Nat) "TypeHouseModel" "pageHeight" "I") ∈ lw_all := lw_g (lw_at lw_m18 94 rfl) rfl
theorem q4600 : (Jvm.Cond.fieldLink "TypeHouseModel" (1031 : Nat) "TypeHouseModel" "pageTop" "I") ∈ lw_all := lw_g (lw_at lw_m18 95 rfl) rfl
theorem q4601 : (Jvm.Cond.fieldLink "TypeHouseModel" (1028 : Nat) "TypeHouseModel" "pageDepth" "I") ∈ lw_all := lw_g (lw_at lw_m18 96 rfl) rfl
theorem q4603 : (Jvm.Cond.fieldLink "TypeHouseModel" (1006 : Nat) "TypeHouseModel" "marks" "I") ∈ lw_all := lw_g (lw_at lw_m18 98 rfl) rfl
theorem q5067 : (Jvm.Cond.methodLink "TypeHouseModel$Device" (84 : Nat) ({ cls := "TypeHouseModel$Device", name := "lay", desc := "(I)V" } : Jvm.MethodName)) ∈ lw_all := lw_g (lw_at lw_m20 82 rfl) rfl
theorem q5069 : (Jvm.Cond.instanceMethod ({ cls := "TypeHouseModel$Device", name := "lay", desc := "(I)V" } : Jvm.MethodName)) ∈ lw_all := lw_g (lw_at lw_m20 84 rfl) rfl
theorem q5070 : (Jvm.Cond.code ({ cls := "TypeHouseModel$Device", name := "lay", desc := "(I)V" } : Jvm.MethodName) prog_39_method_5_code (2 : Nat) (Option.none : Option Jvm.ClassFile.FieldType)) ∈ lw_all := lw_g (lw_at lw_m20 85 rfl) rfl
theorem q5074 : (Jvm.Cond.instanceMethod ({ cls := "TypeHouseModel$Device", name := "layNumber", desc := "(II)V" } : Jvm.MethodName)) ∈ lw_all := lw_g (lw_at lw_m20 89 rfl) rfl
theorem q5075 : (Jvm.Cond.code ({ cls := "TypeHouseModel$Device", name := "layNumber", desc := "(II)V" } : Jvm.MethodName) prog_39_method_6_code (4 : Nat) (Option.none : Option Jvm.ClassFile.FieldType)) ∈ lw_all := lw_g (lw_at lw_m20 90 rfl) rfl
theorem q5091 : (Jvm.Cond.instanceMethod ({ cls := "TypeHouseModel", name := "beginLine", desc := "()Z" } : Jvm.MethodName)) ∈ lw_all := lw_g (lw_at lw_m20 106 rfl) rfl
theorem q5092 : (Jvm.Cond.code ({ cls := "TypeHouseModel", name := "beginLine", desc := "()Z" } : Jvm.MethodName) prog_37_method_22_code (4 : Nat) (Option.some Jvm.ClassFile.FieldType.boolean)) ∈ lw_all := lw_g (lw_at lw_m20 107 rfl) rfl
theorem q5097 : (Jvm.Cond.methodLink "TypeHouseModel" (431 : Nat) ({ cls := "TypeHouseModel", name := "now", desc := "(I)I" } : Jvm.MethodName)) ∈ lw_all := lw_g (lw_at lw_m20 112 rfl) rfl
theorem q5099 : (Jvm.Cond.instanceMethod ({ cls := "TypeHouseModel", name := "now", desc := "(I)I" } : Jvm.MethodName)) ∈ lw_all := lw_g (lw_at lw_m20 114 rfl) rfl
theorem q5100 : (Jvm.Cond.code ({ cls := "TypeHouseModel", name := "now", desc := "(I)I" } : Jvm.MethodName) prog_37_method_14_code (2 : Nat) (Option.some Jvm.ClassFile.FieldType.int)) ∈ lw_all := lw_g (lw_at lw_m20 115 rfl) rfl
theorem q5109 : (Jvm.Cond.methodLink "TypeHouseModel" (428 : Nat) ({ cls := "TypeHouseModel", name := "fail", desc := "(I)V" } : Jvm.MethodName)) ∈ lw_all := lw_g (lw_at lw_m20 124 rfl) rfl
theorem q5111 : (Jvm.Cond.instanceMethod ({ cls := "TypeHouseModel", name := "fail", desc := "(I)V" } : Jvm.MethodName)) ∈ lw_all := lw_g (lw_at lw_m20 126 rfl) rfl
theorem q5112 : (Jvm.Cond.code ({ cls := "TypeHouseModel", name := "fail", desc := "(I)V" } : Jvm.MethodName) prog_37_method_12_code (2 : Nat) (Option.none : Option Jvm.ClassFile.FieldType)) ∈ lw_all := lw_g (lw_at lw_m20 127 rfl) rfl
theorem q5126 : (Jvm.Cond.constant "TypeHouseModel" (463 : Nat) (524288 : Int32)) ∈ lw_all := lw_g (lw_at lw_m20 141 rfl) rfl
theorem q5127 : (Jvm.Cond.methodLink "TypeHouseModel" (459 : Nat) ({ cls := "TypeHouseModel", name := "isCharacter", desc := "(I)Z" } : Jvm.MethodName)) ∈ lw_all := lw_g (lw_at lw_m20 142 rfl) rfl
theorem q5128 : (Jvm.Cond.static ({ cls := "TypeHouseModel", name := "isCharacter", desc := "(I)Z" } : Jvm.MethodName)) ∈ lw_all := lw_g (lw_at lw_m20 143 rfl) rfl
theorem q5129 : (Jvm.Cond.code ({ cls := "TypeHouseModel", name := "isCharacter", desc := "(I)Z" } : Jvm.MethodName) prog_37_method_28_code (1 : Nat) (Option.some Jvm.ClassFile.FieldType.boolean)) ∈ lw_all := lw_g (lw_at lw_m20 144 rfl) rfl
theorem q5140 : (Jvm.Cond.static ({ cls := "TypeHouseModel", name := "bare", desc := "(I)I" } : Jvm.MethodName)) ∈ lw_all := lw_g (lw_at lw_m20 155 rfl) rfl
theorem q5141 : (Jvm.Cond.code ({ cls := "TypeHouseModel", name := "bare", desc := "(I)I" } : Jvm.MethodName) prog_37_method_32_code (1 : Nat) (Option.some Jvm.ClassFile.FieldType.int)) ∈ lw_all := lw_g (lw_at lw_m20 156 rfl) rfl
theorem q5166 : (Jvm.Cond.methodLink "TypeHouseModel" (493 : Nat) ({ cls := "TypeHouseModel", name := "isOf", desc := "(II)Z" } : Jvm.MethodName)) ∈ lw_all := lw_g (lw_at lw_m20 181 rfl) rfl
theorem q5167 : (Jvm.Cond.static ({ cls := "TypeHouseModel", name := "isOf", desc := "(II)Z" } : Jvm.MethodName)) ∈ lw_all := lw_g (lw_at lw_m20 182 rfl) rfl
theorem q5168 : (Jvm.Cond.code ({ cls := "TypeHouseModel", name := "isOf", desc := "(II)Z" } : Jvm.MethodName) prog_37_method_30_code (2 : Nat) (Option.some Jvm.ClassFile.FieldType.boolean)) ∈ lw_all := lw_g (lw_at lw_m20 183 rfl) rfl
theorem q5175 : (Jvm.Cond.instanceMethod ({ cls := "TypeHouseModel", name := "bareOf", desc := "(I)V" } : Jvm.MethodName)) ∈ lw_all := lw_g (lw_at lw_m20 190 rfl) rfl
theorem q5176 : (Jvm.Cond.code ({ cls := "TypeHouseModel", name := "bareOf", desc := "(I)V" } : Jvm.MethodName) prog_37_method_56_code (6 : Nat) (Option.none : Option Jvm.ClassFile.FieldType)) ∈ lw_all := lw_g (lw_at lw_m20 191 rfl) rfl
theorem q5217 : (Jvm.Cond.methodLink "TypeHouseModel" (518 : Nat) ({ cls := "TypeHouseModel", name := "number", desc := "()I" } : Jvm.MethodName)) ∈ lw_all := lw_g (lw_at lw_m20 232 rfl) rfl
theorem q5219 : (Jvm.Cond.instanceMethod ({ cls := "TypeHouseModel", name := "number", desc := "()I" } : Jvm.MethodName)) ∈ lw_all := lw_g (lw_at lw_m20 234 rfl) rfl
theorem q5220 : (Jvm.Cond.code ({ cls := "TypeHouseModel", name := "number", desc := "()I" } : Jvm.MethodName) prog_37_method_83_code (2 : Nat) (Option.some Jvm.ClassFile.FieldType.int)) ∈ lw_all := lw_g (lw_at lw_m20 235 rfl) rfl
theorem q5271 : (Jvm.Cond.methodLink "TypeHouseModel" (590 : Nat) ({ cls := "TypeHouseModel", name := "small", desc := "(I)I" } : Jvm.MethodName)) ∈ lw_all := lw_g (lw_at lw_m21 46 rfl) rfl
theorem q5273 : (Jvm.Cond.instanceMethod ({ cls := "TypeHouseModel", name := "small", desc := "(I)I" } : Jvm.MethodName)) ∈ lw_all := lw_g (lw_at lw_m21 48 rfl) rfl
theorem q5274 : (Jvm.Cond.code ({ cls := "TypeHouseModel", name := "small", desc := "(I)I" } : Jvm.MethodName) prog_37_method_74_code (3 : Nat) (Option.some Jvm.ClassFile.FieldType.int)) ∈ lw_all := lw_g (lw_at lw_m21 49 rfl) rfl
theorem q5277 : (Jvm.Cond.instanceMethod ({ cls := "TypeHouseModel", name := "at", desc := "(I)I" } : Jvm.MethodName)) ∈ lw_all := lw_g (lw_at lw_m21 52 rfl) rfl
theorem q5278 : (Jvm.Cond.code ({ cls := "TypeHouseModel", name := "at", desc := "(I)I" } : Jvm.MethodName) prog_37_method_75_code (2 : Nat) (Option.some Jvm.ClassFile.FieldType.int)) ∈ lw_all := lw_g (lw_at lw_m21 53 rfl) rfl
theorem q5357 : (Jvm.Cond.constantLong "TypeHouseModel" (714 : Nat) (65536 : Int64)) ∈ lw_all := lw_g (lw_at lw_m21 132 rfl) rfl
theorem q5419 : (Jvm.Cond.instanceMethod ({ cls := "TypeHouseModel", name := "mode", desc := "()I" } : Jvm.MethodName)) ∈ lw_all := lw_g (lw_at lw_m21 194 rfl) rfl
theorem q5420 : (Jvm.Cond.code ({ cls := "TypeHouseModel", name := "mode", desc := "()I" } : Jvm.MethodName) prog_37_method_103_code (1 : Nat) (Option.some Jvm.ClassFile.FieldType.int)) ∈ lw_all := lw_g (lw_at lw_m21 195 rfl) rfl
theorem q5475 : (Jvm.Cond.instanceMethod ({ cls := "TypeHouseModel", name := "openPage", desc := "()V" } : Jvm.MethodName)) ∈ lw_all := lw_g (lw_at lw_m22 10 rfl) rfl
theorem q5476 : (Jvm.Cond.code ({ cls := "TypeHouseModel", name := "openPage", desc := "()V" } : Jvm.MethodName) prog_37_method_153_code (3 : Nat) (Option.none : Option Jvm.ClassFile.FieldType)) ∈ lw_all := lw_g (lw_at lw_m22 11 rfl) rfl
theorem q5479 : (Jvm.Cond.instanceMethod ({ cls := "TypeHouseModel", name := "breaks", desc := "()Z" } : Jvm.MethodName)) ∈ lw_all := lw_g (lw_at lw_m22 14 rfl) rfl
theorem q5480 : (Jvm.Cond.code ({ cls := "TypeHouseModel", name := "breaks", desc := "()Z" } : Jvm.MethodName) prog_37_method_154_code (4 : Nat) (Option.some Jvm.ClassFile.FieldType.boolean)) ∈ lw_all := lw_g (lw_at lw_m22 15 rfl) rfl
theorem q5481 : (Jvm.Cond.methodLink "TypeHouseModel" (1059 : Nat) ({ cls := "TypeHouseModel", name := "addUpTo", desc := "(I)V" } : Jvm.MethodName)) ∈ lw_all := lw_g (lw_at lw_m22 16 rfl) rfl
theorem q5483 : (Jvm.Cond.instanceMethod ({ cls := "TypeHouseModel", name := "addUpTo", desc := "(I)V" } : Jvm.MethodName)) ∈ lw_all := lw_g (lw_at lw_m22 18 rfl) rfl
theorem q5484 : (Jvm.Cond.code ({ cls := "TypeHouseModel", name := "addUpTo", desc := "(I)V" } : Jvm.MethodName) prog_37_method_148_code (5 : Nat) (Option.none : Option Jvm.ClassFile.FieldType)) ∈ lw_all := lw_g (lw_at lw_m22 19 rfl) rfl
theorem q5485 : (Jvm.Cond.methodLink "TypeHouseModel" (991 : Nat) ({ cls := "TypeHouseModel", name := "nothing", desc := "()V" } : Jvm.MethodName)) ∈ lw_all := lw_g (lw_at lw_m22 20 rfl) rfl
theorem q5487 : (Jvm.Cond.instanceMethod ({ cls := "TypeHouseModel", name := "nothing", desc := "()V" } : Jvm.MethodName)) ∈ lw_all := lw_g (lw_at lw_m22 22 rfl) rfl
theorem q5488 : (Jvm.Cond.code ({ cls := "TypeHouseModel", name := "nothing", desc := "()V" } : Jvm.MethodName) prog_37_method_133_code (2 : Nat) (Option.none : Option Jvm.ClassFile.FieldType)) ∈ lw_all := lw_g (lw_at lw_m22 23 rfl) rfl
theorem q5489 : (Jvm.Cond.methodLink "TypeHouseModel" (1034 : Nat) ({ cls := "TypeHouseModel", name := "addOuter", desc := "(I)V" } : Jvm.MethodName)) ∈ lw_all := lw_g (lw_at lw_m22 24 rfl) rfl
theorem q5491 : (Jvm.Cond.instanceMethod ({ cls := "TypeHouseModel", name := "addOuter", desc := "(I)V" } : Jvm.MethodName)) ∈ lw_all := lw_g (lw_at lw_m22 26 rfl) rfl
theorem q5492 : (Jvm.Cond.code ({ cls := "TypeHouseModel", name := "addOuter", desc := "(I)V" } : Jvm.MethodName) prog_37_method_147_code (3 : Nat) (Option.none : Option Jvm.ClassFile.FieldType)) ∈ lw_all := lw_g (lw_at lw_m22 27 rfl) rfl
theorem q5493 : (Jvm.Cond.methodLink "TypeHouseModel" (1062 : Nat) ({ cls := "TypeHouseModel", name := "penaltyAt", desc := "(I)I" } : Jvm.MethodName)) ∈ lw_all := lw_g (lw_at lw_m22 28 rfl) rfl
theorem q5495 : (Jvm.Cond.instanceMethod ({ cls := "TypeHouseModel", name := "penaltyAt", desc := "(I)I" } : Jvm.MethodName)) ∈ lw_all := lw_g (lw_at lw_m22 30 rfl) rfl
theorem q5496 : (Jvm.Cond.code ({ cls := "TypeHouseModel", name := "penaltyAt", desc := "(I)I" } : Jvm.MethodName) prog_37_method_152_code (2 : Nat) (Option.some Jvm.ClassFile.FieldType.int)) ∈ lw_all := lw_g (lw_at lw_m22 31 rfl) rfl
theorem q5497 : (Jvm.Cond.methodLink "TypeHouseModel" (1065 : Nat) ({ cls := "TypeHouseModel", name := "cost", desc := "(I)I" } : Jvm.MethodName)) ∈ lw_all := lw_g (lw_at lw_m22 32 rfl) rfl
theorem q5499 : (Jvm.Cond.instanceMethod ({ cls := "TypeHouseModel", name := "cost", desc := "(I)I" } : Jvm.MethodName)) ∈ lw_all := lw_g (lw_at lw_m22 34 rfl) rfl
theorem q5500 : (Jvm.Cond.code ({ cls := "TypeHouseModel", name := "cost", desc := "(I)I" } : Jvm.MethodName) prog_37_method_151_code (3 : Nat) (Option.some Jvm.ClassFile.FieldType.int)) ∈ lw_all := lw_g (lw_at lw_m22 35 rfl) rfl
theorem q5501 : (Jvm.Cond.methodLink "TypeHouseModel" (1056 : Nat) ({ cls := "TypeHouseModel", name := "badness", desc := "()I" } : Jvm.MethodName)) ∈ lw_all := lw_g (lw_at lw_m22 36 rfl) rfl
theorem q5503 : (Jvm.Cond.instanceMethod ({ cls := "TypeHouseModel", name := "badness", desc := "()I" } : Jvm.MethodName)) ∈ lw_all := lw_g (lw_at lw_m22 38 rfl) rfl
theorem q5504 : (Jvm.Cond.code ({ cls := "TypeHouseModel", name := "badness", desc := "()I" } : Jvm.MethodName) prog_37_method_150_code (3 : Nat) (Option.some Jvm.ClassFile.FieldType.int)) ∈ lw_all := lw_g (lw_at lw_m22 39 rfl) rfl
theorem q5505 : (Jvm.Cond.methodLink "TypeHouseModel" (1052 : Nat) ({ cls := "TypeHouseModel", name := "bad", desc := "(JJ)I" } : Jvm.MethodName)) ∈ lw_all := lw_g (lw_at lw_m22 40 rfl) rfl
theorem q5506 : (Jvm.Cond.static ({ cls := "TypeHouseModel", name := "bad", desc := "(JJ)I" } : Jvm.MethodName)) ∈ lw_all := lw_g (lw_at lw_m22 41 rfl) rfl
theorem q5507 : (Jvm.Cond.code ({ cls := "TypeHouseModel", name := "bad", desc := "(JJ)I" } : Jvm.MethodName) prog_37_method_149_code (6 : Nat) (Option.some Jvm.ClassFile.FieldType.int)) ∈ lw_all := lw_g (lw_at lw_m22 42 rfl) rfl
theorem q5508 : (Jvm.Cond.constantLong "TypeHouseModel" (1037 : Nat) (7230584 : Int64)) ∈ lw_all := lw_g (lw_at lw_m22 43 rfl) rfl
theorem q5509 : (Jvm.Cond.constantLong "TypeHouseModel" (1039 : Nat) (297 : Int64)) ∈ lw_all := lw_g (lw_at lw_m22 44 rfl) rfl
theorem q5510 : (Jvm.Cond.constantLong "TypeHouseModel" (1041 : Nat) (1663497 : Int64)) ∈ lw_all := lw_g (lw_at lw_m22 45 rfl) rfl
theorem q5511 : (Jvm.Cond.constantLong "TypeHouseModel" (1043 : Nat) (1290 : Int64)) ∈ lw_all := lw_g (lw_at lw_m22 46 rfl) rfl
theorem q5512 : (Jvm.Cond.constantLong "TypeHouseModel" (1045 : Nat) (131072 : Int64)) ∈ lw_all := lw_g (lw_at lw_m22 47 rfl) rfl
theorem q5513 : (Jvm.Cond.constantLong "TypeHouseModel" (1047 : Nat) (262144 : Int64)) ∈ lw_all := lw_g (lw_at lw_m22 48 rfl) rfl
theorem q5521 : (Jvm.Cond.instanceMethod ({ cls := "TypeHouseModel", name := "layPage", desc := "()Z" } : Jvm.MethodName)) ∈ lw_all := lw_g (lw_at lw_m22 56 rfl) rfl
theorem q5522 : (Jvm.Cond.code ({ cls := "TypeHouseModel", name := "layPage", desc := "()Z" } : Jvm.MethodName) prog_37_method_160_code (5 : Nat) (Option.some Jvm.ClassFile.FieldType.boolean)) ∈ lw_all := lw_g (lw_at lw_m22 57 rfl) rfl
theorem q5523 : (Jvm.Cond.methodLink "TypeHouseModel" (1086 : Nat) ({ cls := "TypeHouseModel", name := "stands", desc := "(I)J" } : Jvm.MethodName)) ∈ lw_all := lw_g (lw_at lw_m22 58 rfl) rfl
theorem q5525 : (Jvm.Cond.instanceMethod ({ cls := "TypeHouseModel", name := "stands", desc := "(I)J" } : Jvm.MethodName)) ∈ lw_all := lw_g (lw_at lw_m22 60 rfl) rfl
theorem q5526 : (Jvm.Cond.code ({ cls := "TypeHouseModel", name := "stands", desc := "(I)J" } : Jvm.MethodName) prog_37_method_158_code (9 : Nat) (Option.some Jvm.ClassFile.FieldType.long)) ∈ lw_all := lw_g (lw_at lw_m22 61 rfl) rfl
theorem q5527 : (Jvm.Cond.methodLink "TypeHouseModel" (1079 : Nat) ({ cls := "TypeHouseModel", name := "pageOrder", desc := "(J)I" } : Jvm.MethodName)) ∈ lw_all := lw_g (lw_at lw_m22 62 rfl) rfl
theorem q5529 : (Jvm.Cond.instanceMethod ({ cls := "TypeHouseModel", name := "pageOrder", desc := "(J)I" } : Jvm.MethodName)) ∈ lw_all := lw_g (lw_at lw_m22 64 rfl) rfl
theorem q5530 : (Jvm.Cond.code ({ cls := "TypeHouseModel", name := "pageOrder", desc := "(J)I" } : Jvm.MethodName) prog_37_method_157_code (5 : Nat) (Option.some Jvm.ClassFile.FieldType.int)) ∈ lw_all := lw_g (lw_at lw_m22 65 rfl) rfl
theorem q5531 : (Jvm.Cond.methodLink "TypeHouseModel" (1082 : Nat) ({ cls := "TypeHouseModel", name := "nearestOf", desc := "(JJJ)J" } : Jvm.MethodName)) ∈ lw_all := lw_g (lw_at lw_m22 66 rfl) rfl
theorem q5532 : (Jvm.Cond.static ({ cls := "TypeHouseModel", name := "nearestOf", desc := "(JJJ)J" } : Jvm.MethodName)) ∈ lw_all := lw_g (lw_at lw_m22 67 rfl) rfl
theorem q5533 : (Jvm.Cond.code ({ cls := "TypeHouseModel", name := "nearestOf", desc := "(JJJ)J" } : Jvm.MethodName) prog_37_method_156_code (11 : Nat) (Option.some Jvm.ClassFile.FieldType.long)) ∈ lw_all := lw_g (lw_at lw_m22 68 rfl) rfl
theorem q5534 : (Jvm.Cond.constantLong "TypeHouseModel" (1077 : Nat) (65535 : Int64)) ∈ lw_all := lw_g (lw_at lw_m22 69 rfl) rfl
theorem q5535 : (Jvm.Cond.methodLink "TypeHouseModel" (1021 : Nat) ({ cls := "TypeHouseModel", name := "layBox", desc := "(IJJ)Z" } : Jvm.MethodName)) ∈ lw_all := lw_g (lw_at lw_m22 70 rfl) rfl
theorem q5537 : (Jvm.Cond.instanceMethod ({ cls := "TypeHouseModel", name := "layBox", desc := "(IJJ)Z" } : Jvm.MethodName)) ∈ lw_all := lw_g (lw_at lw_m22 72 rfl) rfl
theorem q5538 : (Jvm.Cond.code ({ cls := "TypeHouseModel", name := "layBox", desc := "(IJJ)Z" } : Jvm.MethodName) prog_37_method_145_code (21 : Nat) (Option.some Jvm.ClassFile.FieldType.boolean)) ∈ lw_all := lw_g (lw_at lw_m22 73 rfl) rfl
theorem q5574 : (Jvm.Cond.methodLink "TypeHouseModel" (1013 : Nat) ({ cls := "TypeHouseModel", name := "note", desc := "(IIJJJJJ)Z" } : Jvm.MethodName)) ∈ lw_all := lw_g (lw_at lw_m22 109 rfl) rfl
theorem q5576 : (Jvm.Cond.instanceMethod ({ cls := "TypeHouseModel", name := "note", desc := "(IIJJJJJ)Z" } : Jvm.MethodName)) ∈ lw_all := lw_g (lw_at lw_m22 111 rfl) rfl
theorem q5577 : (Jvm.Cond.code ({ cls := "TypeHouseModel", name := "note", desc := "(IIJJJJJ)Z" } : Jvm.MethodName) prog_37_method_143_code (13 : Nat) (Option.some Jvm.ClassFile.FieldType.boolean)) ∈ lw_all := lw_g (lw_at lw_m22 112 rfl) rfl
theorem q5582 : (Jvm.Cond.methodLink "TypeHouseModel" (1090 : Nat) ({ cls := "TypeHouseModel", name := "pageWidth", desc := "()J" } : Jvm.MethodName)) ∈ lw_all := lw_g (lw_at lw_m22 117 rfl) rfl
theorem q5584 : (Jvm.Cond.instanceMethod ({ cls := "TypeHouseModel", name := "pageWidth", desc := "()J" } : Jvm.MethodName)) ∈ lw_all := lw_g (lw_at lw_m22 119 rfl) rfl
theorem q5585 : (Jvm.Cond.code ({ cls := "TypeHouseModel", name := "pageWidth", desc := "()J" } : Jvm.MethodName) prog_37_method_159_code (7 : Nat) (Option.some Jvm.ClassFile.FieldType.long)) ∈ lw_all := lw_g (lw_at lw_m22 120 rfl) rfl
theorem q5588 : (Jvm.Cond.instanceMethod ({ cls := "TypeHouseModel", name := "areNear", desc := "()Z" } : Jvm.MethodName)) ∈ lw_all := lw_g (lw_at lw_m22 123 rfl) rfl
theorem q5589 : (Jvm.Cond.code ({ cls := "TypeHouseModel", name := "areNear", desc := "()Z" } : Jvm.MethodName) prog_37_method_162_code (6 : Nat) (Option.some Jvm.ClassFile.FieldType.boolean)) ∈ lw_all := lw_g (lw_at lw_m22 124 rfl) rfl
theorem q5590 : (Jvm.Cond.methodLink "TypeHouseModel" (1098 : Nat) ({ cls := "TypeHouseModel", name := "isNear", desc := "(J)Z" } : Jvm.MethodName)) ∈ lw_all := lw_g (lw_at lw_m22 125 rfl) rfl
theorem q5591 : (Jvm.Cond.static ({ cls := "TypeHouseModel", name := "isNear", desc := "(J)Z" } : Jvm.MethodName)) ∈ lw_all := lw_g (lw_at lw_m22 126 rfl) rfl
theorem q5592 : (Jvm.Cond.code ({ cls := "TypeHouseModel", name := "isNear", desc := "(J)Z" } : Jvm.MethodName) prog_37_method_161_code (2 : Nat) (Option.some Jvm.ClassFile.FieldType.boolean)) ∈ lw_all := lw_g (lw_at lw_m22 127 rfl) rfl
theorem q5593 : (Jvm.Cond.constantLong "TypeHouseModel" (1094 : Nat) (-1000000000 : Int64)) ∈ lw_all := lw_g (lw_at lw_m22 128 rfl) rfl
theorem q5594 : (Jvm.Cond.constantLong "TypeHouseModel" (1096 : Nat) (1000000000 : Int64)) ∈ lw_all := lw_g (lw_at lw_m22 129 rfl) rfl
theorem q5597 : (Jvm.Cond.instanceMethod ({ cls := "TypeHouseModel", name := "counter", desc := "(I)I" } : Jvm.MethodName)) ∈ lw_all := lw_g (lw_at lw_m22 132 rfl) rfl
theorem q5598 : (Jvm.Cond.code ({ cls := "TypeHouseModel", name := "counter", desc := "(I)I" } : Jvm.MethodName) prog_37_method_124_code (2 : Nat) (Option.some Jvm.ClassFile.FieldType.int)) ∈ lw_all := lw_g (lw_at lw_m22 133 rfl) rfl
theorem q5605 : (Jvm.Cond.instanceMethod ({ cls := "TypeHouseModel$Device", name := "findMoves", desc := "()V" } : Jvm.MethodName)) ∈ lw_all := lw_g (lw_at lw_m22 140 rfl) rfl
theorem q5606 : (Jvm.Cond.code ({ cls := "TypeHouseModel$Device", name := "findMoves", desc := "()V" } : Jvm.MethodName) prog_39_method_7_code (4 : Nat) (Option.none : Option Jvm.ClassFile.FieldType)) ∈ lw_all := lw_g (lw_at lw_m22 141 rfl) rfl
theorem q5616 : (Jvm.Cond.static ({ cls := "TypeHouseModel$Device", name := "bytesOf", desc := "(I)I" } : Jvm.MethodName)) ∈ lw_all := lw_g (lw_at lw_m22 151 rfl) rfl
theorem q5617 : (Jvm.Cond.code ({ cls := "TypeHouseModel$Device", name := "bytesOf", desc := "(I)I" } : Jvm.MethodName) prog_39_method_9_code (1 : Nat) (Option.some Jvm.ClassFile.FieldType.int)) ∈ lw_all := lw_g (lw_at lw_m22 152 rfl) rfl
theorem q5618 : (Jvm.Cond.constant "TypeHouseModel$Device" (91 : Nat) (32768 : Int32)) ∈ lw_all := lw_g (lw_at lw_m22 153 rfl) rfl
theorem q5619 : (Jvm.Cond.constant "TypeHouseModel$Device" (92 : Nat) (-8388608 : Int32)) ∈ lw_all := lw_g (lw_at lw_m22 154 rfl) rfl
theorem q5620 : (Jvm.Cond.constant "TypeHouseModel$Device" (93 : Nat) (8388608 : Int32)) ∈ lw_all := lw_g (lw_at lw_m22 155 rfl) rfl
theorem q5623 : (Jvm.Cond.instanceMethod ({ cls := "TypeHouseModel$Device", name := "comes", desc := "([III)Z" } : Jvm.MethodName)) ∈ lw_all := lw_g (lw_at lw_m22 158 rfl) rfl
theorem q5624 : (Jvm.Cond.code ({ cls := "TypeHouseModel$Device", name := "comes", desc := "([III)Z" } : Jvm.MethodName) prog_39_method_8_code (6 : Nat) (Option.some Jvm.ClassFile.FieldType.boolean)) ∈ lw_all := lw_g (lw_at lw_m22 159 rfl) rfl
theorem q5762 : (Jvm.Cond.instanceMethod ({ cls := "TypeHouseModel", name := "around", desc := "(II)V" } : Jvm.MethodName)) ∈ lw_all := lw_g (lw_at lw_m23 57 rfl) rfl
theorem q5763 : (Jvm.Cond.code ({ cls := "TypeHouseModel", name := "around", desc := "(II)V" } : Jvm.MethodName) prog_37_method_125_code (4 : Nat) (Option.none : Option Jvm.ClassFile.FieldType)) ∈ lw_all := lw_g (lw_at lw_m23 58 rfl) rfl
abbrev cX35_addOuter : ByteArray := prog_37_method_147_code
def yX35_addOuter : MethodName := ⟨RX35, "addOuter", "(I)V"⟩
def YX35_addOuter : eY := (yX35_addOuter, cX35_addOuter, 3, none, [])
theorem mX35_addOuter : e_mv YX35_addOuter RX35 1 := ⟨q5491, qs319, q5492, by decide, by decide +kernel, (e_sig (by decide +kernel))⟩
theorem dX35_addOuter_0 : decode cX35_addOuter 0 = .ok (.aload_n 0, 1) := dc_42 (by decide +kernel)
theorem dX35_addOuter_1 : decode cX35_addOuter 1 = .ok (.getfield 195, 3) := dc_180 (a := 0) (b := 195) (n := 195) (by decide +kernel)
theorem dX35_addOuter_4 : decode cX35_addOuter 4 = .ok (.iload_n 1, 1) := dc_27 (by decide +kernel)
theorem dX35_addOuter_5 : decode cX35_addOuter 5 = .ok (.iaload, 1) := dc_46 (by decide +kernel)
theorem dX35_addOuter_6 : decode cX35_addOuter 6 = .ok (.istore_n 2, 1) := dc_61 (by decide +kernel)
theorem dX35_addOuter_7 : decode cX35_addOuter 7 = .ok (.iload_n 2, 1) := dc_28 (by decide +kernel)
theorem dX35_addOuter_8 : decode cX35_addOuter 8 = .ok (.iconst 5, 1) := dc_8 (by decide +kernel)
theorem dX35_addOuter_9 : decode cX35_addOuter 9 = .ok (.if_icmp .ne 76, 3) := dc_160 (a := 0) (b := 76) (v := 76) (by decide +kernel)
theorem dX35_addOuter_12 : decode cX35_addOuter 12 = .ok (.aload_n 0, 1) := dc_42 (by decide +kernel)
theorem dX35_addOuter_13 : decode cX35_addOuter 13 = .ok (.aload_n 0, 1) := dc_42 (by decide +kernel)
theorem dX35_addOuter_14 : decode cX35_addOuter 14 = .ok (.getfield 952, 3) := dc_180 (a := 3) (b := 184) (n := 952) (by decide +kernel)
theorem dX35_addOuter_17 : decode cX35_addOuter 17 = .ok (.aload_n 0, 1) := dc_42 (by decide +kernel)
theorem dX35_addOuter_18 : decode cX35_addOuter 18 = .ok (.getfield 957, 3) := dc_180 (a := 3) (b := 189) (n := 957) (by decide +kernel)
theorem dX35_addOuter_21 : decode cX35_addOuter 21 = .ok (.ladd, 1) := dc_97 (by decide +kernel)
theorem dX35_addOuter_22 : decode cX35_addOuter 22 = .ok (.aload_n 0, 1) := dc_42 (by decide +kernel)
theorem dX35_addOuter_23 : decode cX35_addOuter 23 = .ok (.getfield 201, 3) := dc_180 (a := 0) (b := 201) (n := 201) (by decide +kernel)
theorem dX35_addOuter_26 : decode cX35_addOuter 26 = .ok (.iload_n 1, 1) := dc_27 (by decide +kernel)
theorem dX35_addOuter_27 : decode cX35_addOuter 27 = .ok (.iaload, 1) := dc_46 (by decide +kernel)
theorem dX35_addOuter_28 : decode cX35_addOuter 28 = .ok (.i2l, 1) := dc_133 (by decide +kernel)
theorem dX35_addOuter_29 : decode cX35_addOuter 29 = .ok (.ladd, 1) := dc_97 (by decide +kernel)
theorem dX35_addOuter_30 : decode cX35_addOuter 30 = .ok (.putfield 952, 3) := dc_181 (a := 3) (b := 184) (n := 952) (by decide +kernel)
theorem dX35_addOuter_33 : decode cX35_addOuter 33 = .ok (.aload_n 0, 1) := dc_42 (by decide +kernel)
theorem dX35_addOuter_34 : decode cX35_addOuter 34 = .ok (.aload_n 0, 1) := dc_42 (by decide +kernel)
theorem dX35_addOuter_35 : decode cX35_addOuter 35 = .ok (.getfield 204, 3) := dc_180 (a := 0) (b := 204) (n := 204) (by decide +kernel)
theorem dX35_addOuter_38 : decode cX35_addOuter 38 = .ok (.iload_n 1, 1) := dc_27 (by decide +kernel)
theorem dX35_addOuter_39 : decode cX35_addOuter 39 = .ok (.iaload, 1) := dc_46 (by decide +kernel)
theorem dX35_addOuter_40 : decode cX35_addOuter 40 = .ok (.i2l, 1) := dc_133 (by decide +kernel)
theorem dX35_addOuter_41 : decode cX35_addOuter 41 = .ok (.putfield 957, 3) := dc_181 (a := 3) (b := 189) (n := 957) (by decide +kernel)
theorem dX35_addOuter_44 : decode cX35_addOuter 44 = .ok (.aload_n 0, 1) := dc_42 (by decide +kernel)
theorem dX35_addOuter_45 : decode cX35_addOuter 45 = .ok (.getfield 957, 3) := dc_180 (a := 3) (b := 189) (n := 957) (by decide +kernel)
theorem dX35_addOuter_48 : decode cX35_addOuter 48 = .ok (.aload_n 0, 1) := dc_42 (by decide +kernel)
theorem dX35_addOuter_49 : decode cX35_addOuter 49 = .ok (.getfield 1028, 3) := dc_180 (a := 4) (b := 4) (n := 1028) (by decide +kernel)
theorem dX35_addOuter_52 : decode cX35_addOuter 52 = .ok (.i2l, 1) := dc_133 (by decide +kernel)
theorem dX35_addOuter_53 : decode cX35_addOuter 53 = .ok (.lcmp, 1) := dc_148 (by decide +kernel)
theorem dX35_addOuter_54 : decode cX35_addOuter 54 = .ok (.ifCond .le 31, 3) := dc_158 (a := 0) (b := 31) (v := 31) (by decide +kernel)
theorem dX35_addOuter_57 : decode cX35_addOuter 57 = .ok (.aload_n 0, 1) := dc_42 (by decide +kernel)
theorem dX35_addOuter_58 : decode cX35_addOuter 58 = .ok (.aload_n 0, 1) := dc_42 (by decide +kernel)
theorem dX35_addOuter_59 : decode cX35_addOuter 59 = .ok (.getfield 952, 3) := dc_180 (a := 3) (b := 184) (n := 952) (by decide +kernel)
theorem dX35_addOuter_62 : decode cX35_addOuter 62 = .ok (.aload_n 0, 1) := dc_42 (by decide +kernel)
theorem dX35_addOuter_63 : decode cX35_addOuter 63 = .ok (.getfield 957, 3) := dc_180 (a := 3) (b := 189) (n := 957) (by decide +kernel)
theorem dX35_addOuter_66 : decode cX35_addOuter 66 = .ok (.ladd, 1) := dc_97 (by decide +kernel)
theorem dX35_addOuter_67 : decode cX35_addOuter 67 = .ok (.aload_n 0, 1) := dc_42 (by decide +kernel)
theorem dX35_addOuter_68 : decode cX35_addOuter 68 = .ok (.getfield 1028, 3) := dc_180 (a := 4) (b := 4) (n := 1028) (by decide +kernel)
theorem dX35_addOuter_71 : decode cX35_addOuter 71 = .ok (.i2l, 1) := dc_133 (by decide +kernel)
theorem dX35_addOuter_72 : decode cX35_addOuter 72 = .ok (.lsub, 1) := dc_101 (by decide +kernel)
theorem dX35_addOuter_73 : decode cX35_addOuter 73 = .ok (.putfield 952, 3) := dc_181 (a := 3) (b := 184) (n := 952) (by decide +kernel)
theorem dX35_addOuter_76 : decode cX35_addOuter 76 = .ok (.aload_n 0, 1) := dc_42 (by decide +kernel)
theorem dX35_addOuter_77 : decode cX35_addOuter 77 = .ok (.aload_n 0, 1) := dc_42 (by decide +kernel)
theorem dX35_addOuter_78 : decode cX35_addOuter 78 = .ok (.getfield 1028, 3) := dc_180 (a := 4) (b := 4) (n := 1028) (by decide +kernel)
theorem dX35_addOuter_81 : decode cX35_addOuter 81 = .ok (.i2l, 1) := dc_133 (by decide +kernel)
theorem dX35_addOuter_82 : decode cX35_addOuter 82 = .ok (.putfield 957, 3) := dc_181 (a := 3) (b := 189) (n := 957) (by decide +kernel)
theorem dX35_addOuter_85 : decode cX35_addOuter 85 = .ok (.iload_n 2, 1) := dc_28 (by decide +kernel)
theorem dX35_addOuter_86 : decode cX35_addOuter 86 = .ok (.iconst 2, 1) := dc_5 (by decide +kernel)
theorem dX35_addOuter_87 : decode cX35_addOuter 87 = .ok (.if_icmp .eq 8, 3) := dc_159 (a := 0) (b := 8) (v := 8) (by decide +kernel)
theorem dX35_addOuter_90 : decode cX35_addOuter 90 = .ok (.iload_n 2, 1) := dc_28 (by decide +kernel)
theorem dX35_addOuter_91 : decode cX35_addOuter 91 = .ok (.iconst 3, 1) := dc_6 (by decide +kernel)
theorem dX35_addOuter_92 : decode cX35_addOuter 92 = .ok (.if_icmp .ne 29, 3) := dc_160 (a := 0) (b := 29) (v := 29) (by decide +kernel)
theorem dX35_addOuter_95 : decode cX35_addOuter 95 = .ok (.aload_n 0, 1) := dc_42 (by decide +kernel)
theorem dX35_addOuter_96 : decode cX35_addOuter 96 = .ok (.aload_n 0, 1) := dc_42 (by decide +kernel)
theorem dX35_addOuter_97 : decode cX35_addOuter 97 = .ok (.getfield 952, 3) := dc_180 (a := 3) (b := 184) (n := 952) (by decide +kernel)
theorem dX35_addOuter_100 : decode cX35_addOuter 100 = .ok (.aload_n 0, 1) := dc_42 (by decide +kernel)
theorem dX35_addOuter_101 : decode cX35_addOuter 101 = .ok (.getfield 957, 3) := dc_180 (a := 3) (b := 189) (n := 957) (by decide +kernel)
theorem dX35_addOuter_104 : decode cX35_addOuter 104 = .ok (.ladd, 1) := dc_97 (by decide +kernel)
theorem dX35_addOuter_105 : decode cX35_addOuter 105 = .ok (.aload_n 0, 1) := dc_42 (by decide +kernel)
theorem dX35_addOuter_106 : decode cX35_addOuter 106 = .ok (.getfield 198, 3) := dc_180 (a := 0) (b := 198) (n := 198) (by decide +kernel)
theorem dX35_addOuter_109 : decode cX35_addOuter 109 = .ok (.iload_n 1, 1) := dc_27 (by decide +kernel)
theorem dX35_addOuter_110 : decode cX35_addOuter 110 = .ok (.iaload, 1) := dc_46 (by decide +kernel)
theorem dX35_addOuter_111 : decode cX35_addOuter 111 = .ok (.i2l, 1) := dc_133 (by decide +kernel)
theorem dX35_addOuter_112 : decode cX35_addOuter 112 = .ok (.ladd, 1) := dc_97 (by decide +kernel)
theorem dX35_addOuter_113 : decode cX35_addOuter 113 = .ok (.putfield 952, 3) := dc_181 (a := 3) (b := 184) (n := 952) (by decide +kernel)
theorem dX35_addOuter_116 : decode cX35_addOuter 116 = .ok (.aload_n 0, 1) := dc_42 (by decide +kernel)
theorem dX35_addOuter_117 : decode cX35_addOuter 117 = .ok (.lconst 0, 1) := dc_9 (by decide +kernel)
theorem dX35_addOuter_118 : decode cX35_addOuter 118 = .ok (.putfield 957, 3) := dc_181 (a := 3) (b := 189) (n := 957) (by decide +kernel)
theorem dX35_addOuter_121 : decode cX35_addOuter 121 = .ok (.iload_n 2, 1) := dc_28 (by decide +kernel)
theorem dX35_addOuter_122 : decode cX35_addOuter 122 = .ok (.iconst 2, 1) := dc_5 (by decide +kernel)
theorem dX35_addOuter_123 : decode cX35_addOuter 123 = .ok (.if_icmp .ne 49, 3) := dc_160 (a := 0) (b := 49) (v := 49) (by decide +kernel)
theorem dX35_addOuter_126 : decode cX35_addOuter 126 = .ok (.aload_n 0, 1) := dc_42 (by decide +kernel)
theorem dX35_addOuter_127 : decode cX35_addOuter 127 = .ok (.getfield 188, 3) := dc_180 (a := 0) (b := 188) (n := 188) (by decide +kernel)
theorem dX35_addOuter_130 : decode cX35_addOuter 130 = .ok (.aload_n 0, 1) := dc_42 (by decide +kernel)
theorem dX35_addOuter_131 : decode cX35_addOuter 131 = .ok (.getfield 207, 3) := dc_180 (a := 0) (b := 207) (n := 207) (by decide +kernel)
theorem dX35_addOuter_134 : decode cX35_addOuter 134 = .ok (.iload_n 1, 1) := dc_27 (by decide +kernel)
theorem dX35_addOuter_135 : decode cX35_addOuter 135 = .ok (.iaload, 1) := dc_46 (by decide +kernel)
theorem dX35_addOuter_136 : decode cX35_addOuter 136 = .ok (.aload_n 0, 1) := dc_42 (by decide +kernel)
theorem dX35_addOuter_137 : decode cX35_addOuter 137 = .ok (.getfield 188, 3) := dc_180 (a := 0) (b := 188) (n := 188) (by decide +kernel)
theorem dX35_addOuter_140 : decode cX35_addOuter 140 = .ok (.aload_n 0, 1) := dc_42 (by decide +kernel)
theorem dX35_addOuter_141 : decode cX35_addOuter 141 = .ok (.getfield 207, 3) := dc_180 (a := 0) (b := 207) (n := 207) (by decide +kernel)
theorem dX35_addOuter_144 : decode cX35_addOuter 144 = .ok (.iload_n 1, 1) := dc_27 (by decide +kernel)
theorem dX35_addOuter_145 : decode cX35_addOuter 145 = .ok (.iaload, 1) := dc_46 (by decide +kernel)
theorem dX35_addOuter_146 : decode cX35_addOuter 146 = .ok (.laload, 1) := dc_47 (by decide +kernel)
theorem dX35_addOuter_147 : decode cX35_addOuter 147 = .ok (.aload_n 0, 1) := dc_42 (by decide +kernel)
theorem dX35_addOuter_148 : decode cX35_addOuter 148 = .ok (.getfield 201, 3) := dc_180 (a := 0) (b := 201) (n := 201) (by decide +kernel)
theorem dX35_addOuter_151 : decode cX35_addOuter 151 = .ok (.iload_n 1, 1) := dc_27 (by decide +kernel)
theorem dX35_addOuter_152 : decode cX35_addOuter 152 = .ok (.iaload, 1) := dc_46 (by decide +kernel)
theorem dX35_addOuter_153 : decode cX35_addOuter 153 = .ok (.i2l, 1) := dc_133 (by decide +kernel)
theorem dX35_addOuter_154 : decode cX35_addOuter 154 = .ok (.ladd, 1) := dc_97 (by decide +kernel)
theorem dX35_addOuter_155 : decode cX35_addOuter 155 = .ok (.lastore, 1) := dc_80 (by decide +kernel)
theorem dX35_addOuter_156 : decode cX35_addOuter 156 = .ok (.aload_n 0, 1) := dc_42 (by decide +kernel)
theorem dX35_addOuter_157 : decode cX35_addOuter 157 = .ok (.aload_n 0, 1) := dc_42 (by decide +kernel)
theorem dX35_addOuter_158 : decode cX35_addOuter 158 = .ok (.getfield 966, 3) := dc_180 (a := 3) (b := 198) (n := 966) (by decide +kernel)
theorem dX35_addOuter_161 : decode cX35_addOuter 161 = .ok (.aload_n 0, 1) := dc_42 (by decide +kernel)
theorem dX35_addOuter_162 : decode cX35_addOuter 162 = .ok (.getfield 204, 3) := dc_180 (a := 0) (b := 204) (n := 204) (by decide +kernel)
theorem dX35_addOuter_165 : decode cX35_addOuter 165 = .ok (.iload_n 1, 1) := dc_27 (by decide +kernel)
theorem dX35_addOuter_166 : decode cX35_addOuter 166 = .ok (.iaload, 1) := dc_46 (by decide +kernel)
theorem dX35_addOuter_167 : decode cX35_addOuter 167 = .ok (.i2l, 1) := dc_133 (by decide +kernel)
theorem dX35_addOuter_168 : decode cX35_addOuter 168 = .ok (.ladd, 1) := dc_97 (by decide +kernel)
theorem dX35_addOuter_169 : decode cX35_addOuter 169 = .ok (.putfield 966, 3) := dc_181 (a := 3) (b := 198) (n := 966) (by decide +kernel)
theorem dX35_addOuter_172 : decode cX35_addOuter 172 = .ok (.return_, 1) := dc_177 (by decide +kernel)
theorem GX35_1028 {w : eW} {d : Nat} {Y : eY} {pc : Nat} {ls : eL} {st : List Value} {h : eH} {Q : eO → eH → Prop} {a : Nat} {x : Int32} (hf : g_I 34 h a 100 = some x) (hd : decode Y.2.1 pc = .ok (.getfield 1028, 3)) (hY : Y.1.cls = RX35) (kk : wp w d Y (pc + 3) ls (.int x :: st) h Q) : wp w d Y pc ls (.ref a :: st) h Q := x_gI (ci := 34) (k := 100) hf hd rfl (by decide) (by rw [hY]; exact q4601) kk
theorem GX35_195 {w : eW} {d : Nat} {Y : eY} {pc : Nat} {ls : eL} {st : List Value} {h : eH} {Q : eO → eH → Prop} {a : Nat} {x : Nat} (hf : g_A 34 h a 87 = some x) (hd : decode Y.2.1 pc = .ok (.getfield 195, 3)) (hY : Y.1.cls = RX35) (kk : wp w d Y (pc + 3) ls (.ref x :: st) h Q) : wp w d Y pc ls (.ref a :: st) h Q := x_gA (ci := 34) (k := 87) hf hd rfl (by decide) (by rw [hY]; exact q4588) kk
theorem GX35_198 {w : eW} {d : Nat} {Y : eY} {pc : Nat} {ls : eL} {st : List Value} {h : eH} {Q : eO → eH → Prop} {a : Nat} {x : Nat} (hf : g_A 34 h a 88 = some x) (hd : decode Y.2.1 pc = .ok (.getfield 198, 3)) (hY : Y.1.cls = RX35) (kk : wp w d Y (pc + 3) ls (.ref x :: st) h Q) : wp w d Y pc ls (.ref a :: st) h Q := x_gA (ci := 34) (k := 88) hf hd rfl (by decide) (by rw [hY]; exact q4589) kk
theorem GX35_201 {w : eW} {d : Nat} {Y : eY} {pc : Nat} {ls : eL} {st : List Value} {h : eH} {Q : eO → eH → Prop} {a : Nat} {x : Nat} (hf : g_A 34 h a 89 = some x) (hd : decode Y.2.1 pc = .ok (.getfield 201, 3)) (hY : Y.1.cls = RX35) (kk : wp w d Y (pc + 3) ls (.ref x :: st) h Q) : wp w d Y pc ls (.ref a :: st) h Q := x_gA (ci := 34) (k := 89) hf hd rfl (by decide) (by rw [hY]; exact q4590) kk
theorem GX35_204 {w : eW} {d : Nat} {Y : eY} {pc : Nat} {ls : eL} {st : List Value} {h : eH} {Q : eO → eH → Prop} {a : Nat} {x : Nat} (hf : g_A 34 h a 90 = some x) (hd : decode Y.2.1 pc = .ok (.getfield 204, 3)) (hY : Y.1.cls = RX35) (kk : wp w d Y (pc + 3) ls (.ref x :: st) h Q) : wp w d Y pc ls (.ref a :: st) h Q := x_gA (ci := 34) (k := 90) hf hd rfl (by decide) (by rw [hY]; exact q4591) kk
theorem GX35_207 {w : eW} {d : Nat} {Y : eY} {pc : Nat} {ls : eL} {st : List Value} {h : eH} {Q : eO → eH → Prop} {a : Nat} {x : Nat} (hf : g_A 34 h a 91 = some x) (hd : decode Y.2.1 pc = .ok (.getfield 207, 3)) (hY : Y.1.cls = RX35) (kk : wp w d Y (pc + 3) ls (.ref x :: st) h Q) : wp w d Y pc ls (.ref a :: st) h Q := x_gA (ci := 34) (k := 91) hf hd rfl (by decide) (by rw [hY]; exact q4592) kk
def fX35_addOuter_b172  (h : eH) : Option (Unit × eH) :=
  some ((), h)
theorem pX35_addOuter_b172 {w : eW} {d : Nat} (hd : 0 ≤ d)  {h : eH} {q} (hf : fX35_addOuter_b172  h = some q) : wp w d YX35_addOuter 172 [none, none, none] [] h (e_is (e_rn c_V q)) := by
  unfold fX35_addOuter_b172 at hf
  cases hf
  exact w_vret dX35_addOuter_172 rfl rfl
def fX35_addOuter_b121 (l0 : Nat) (l1 : Int32) (l2 : Int32) (h : eH) : Option (Unit × eH) :=
  if ¬ l2 = (2 : Int32) then
    fX35_addOuter_b172 h
  else
    (g_A 34 h l0 83).bind fun a2 =>
    (g_A 34 h l0 91).bind fun a4 =>
    (r_I 100 h a4 l1).bind fun x6 =>
    (g_A 34 h l0 83).bind fun a8 =>
    (g_A 34 h l0 91).bind fun a10 =>
    (r_I 100 h a10 l1).bind fun x12 =>
    (r_J h a8 x12).bind fun x14 =>
    (g_A 34 h l0 89).bind fun a16 =>
    (r_I 100 h a16 l1).bind fun x18 =>
    (q_V 101 h a2 x6 (.long (x14 + (x18).toInt64))).bind fun h20 =>
    (g_J 34 h20 l0 85).bind fun x22 =>
    (g_A 34 h20 l0 90).bind fun a24 =>
    (r_I 100 h20 a24 l1).bind fun x26 =>
    (p_V 34 h20 l0 85 (.long (x22 + (x26).toInt64))).bind fun h28 =>
    fX35_addOuter_b172 h28
theorem pX35_addOuter_b121 {w : eW} {d : Nat} (hd : 0 ≤ d) {l0 : Nat} {l1 : Int32} {l2 : Int32} {h : eH} {q} (hf : fX35_addOuter_b121 l0 l1 l2 h = some q) : wp w d YX35_addOuter 121 [some (.ref l0), some (.int l1), some (.int l2)] [] h (e_is (e_rn c_V q)) := by
  unfold fX35_addOuter_b121 at hf
  refine w_iload_n dX35_addOuter_121 rfl rfl ?_
  refine w_iconst dX35_addOuter_122 (v := 2) (by decide) ?_
  refine w_icmp_ne 172 dX35_addOuter_123 (by decide) (fun c1 => ?_) (fun c1 => ?_)
  · replace hf := (if_pos (show ¬ l2 = (2 : Int32) from c1)).symm.trans hf
    exact (pX35_addOuter_b172 hd hf).to trivial
  · replace hf := (if_neg (show ¬ (¬ l2 = (2 : Int32)) from (fun z => z c1))).symm.trans hf
    refine w_aload_n dX35_addOuter_126 rfl rfl ?_
    obtain ⟨a2, b3, hf⟩ := Option.bind_eq_some_iff.mp hf
    refine GX35_188 b3 dX35_addOuter_127 rfl ?_
    refine w_aload_n dX35_addOuter_130 rfl rfl ?_
    obtain ⟨a4, b5, hf⟩ := Option.bind_eq_some_iff.mp hf
    refine GX35_207 b5 dX35_addOuter_131 rfl ?_
    refine w_iload_n dX35_addOuter_134 rfl rfl ?_
    obtain ⟨x6, b7, hf⟩ := Option.bind_eq_some_iff.mp hf
    refine x_rI b7 dX35_addOuter_135 ?_
    refine w_aload_n dX35_addOuter_136 rfl rfl ?_
    obtain ⟨a8, b9, hf⟩ := Option.bind_eq_some_iff.mp hf
    refine GX35_188 b9 dX35_addOuter_137 rfl ?_
    refine w_aload_n dX35_addOuter_140 rfl rfl ?_
    obtain ⟨a10, b11, hf⟩ := Option.bind_eq_some_iff.mp hf
    refine GX35_207 b11 dX35_addOuter_141 rfl ?_
    refine w_iload_n dX35_addOuter_144 rfl rfl ?_
    obtain ⟨x12, b13, hf⟩ := Option.bind_eq_some_iff.mp hf
    refine x_rI b13 dX35_addOuter_145 ?_
    obtain ⟨x14, b15, hf⟩ := Option.bind_eq_some_iff.mp hf
    refine x_rJ b15 dX35_addOuter_146 ?_
    refine w_aload_n dX35_addOuter_147 rfl rfl ?_
    obtain ⟨a16, b17, hf⟩ := Option.bind_eq_some_iff.mp hf
    refine GX35_201 b17 dX35_addOuter_148 rfl ?_
    refine w_iload_n dX35_addOuter_151 rfl rfl ?_
    obtain ⟨x18, b19, hf⟩ := Option.bind_eq_some_iff.mp hf
    refine x_rI b19 dX35_addOuter_152 ?_
    refine w_i2l dX35_addOuter_153 ?_
    refine w_ladd dX35_addOuter_154 ?_
    obtain ⟨h20, b21, hf⟩ := Option.bind_eq_some_iff.mp hf
    refine x_qJ b21 dX35_addOuter_155 ?_
    refine w_aload_n dX35_addOuter_156 rfl rfl ?_
    refine w_aload_n dX35_addOuter_157 rfl rfl ?_
    obtain ⟨x22, b23, hf⟩ := Option.bind_eq_some_iff.mp hf
    refine GX35_966 b23 dX35_addOuter_158 rfl ?_
    refine w_aload_n dX35_addOuter_161 rfl rfl ?_
    obtain ⟨a24, b25, hf⟩ := Option.bind_eq_some_iff.mp hf
    refine GX35_204 b25 dX35_addOuter_162 rfl ?_
    refine w_iload_n dX35_addOuter_165 rfl rfl ?_
    obtain ⟨x26, b27, hf⟩ := Option.bind_eq_some_iff.mp hf
    refine x_rI b27 dX35_addOuter_166 ?_
    refine w_i2l dX35_addOuter_167 ?_
    refine w_ladd dX35_addOuter_168 ?_
    obtain ⟨h28, b29, hf⟩ := Option.bind_eq_some_iff.mp hf
    refine SX35_966 b29 dX35_addOuter_169 rfl ?_
    exact (pX35_addOuter_b172 hd hf).to trivial
def fX35_addOuter_b95 (l0 : Nat) (l1 : Int32) (l2 : Int32) (h : eH) : Option (Unit × eH) :=
  (g_J 34 h l0 79).bind fun x1 =>
  (g_J 34 h l0 80).bind fun x3 =>
  (g_A 34 h l0 88).bind fun a5 =>
  (r_I 100 h a5 l1).bind fun x7 =>
  (p_V 34 h l0 79 (.long ((x1 + x3) + (x7).toInt64))).bind fun h9 =>
  (p_V 34 h9 l0 80 (.long (0 : Int64))).bind fun h11 =>
  fX35_addOuter_b121 l0 l1 l2 h11
theorem pX35_addOuter_b95 {w : eW} {d : Nat} (hd : 0 ≤ d) {l0 : Nat} {l1 : Int32} {l2 : Int32} {h : eH} {q} (hf : fX35_addOuter_b95 l0 l1 l2 h = some q) : wp w d YX35_addOuter 95 [some (.ref l0), some (.int l1), some (.int l2)] [] h (e_is (e_rn c_V q)) := by
  unfold fX35_addOuter_b95 at hf
  refine w_aload_n dX35_addOuter_95 rfl rfl ?_
  refine w_aload_n dX35_addOuter_96 rfl rfl ?_
  obtain ⟨x1, b2, hf⟩ := Option.bind_eq_some_iff.mp hf
  refine GX35_952 b2 dX35_addOuter_97 rfl ?_
  refine w_aload_n dX35_addOuter_100 rfl rfl ?_
  obtain ⟨x3, b4, hf⟩ := Option.bind_eq_some_iff.mp hf
  refine GX35_957 b4 dX35_addOuter_101 rfl ?_
  refine w_ladd dX35_addOuter_104 ?_
  refine w_aload_n dX35_addOuter_105 rfl rfl ?_
  obtain ⟨a5, b6, hf⟩ := Option.bind_eq_some_iff.mp hf
  refine GX35_198 b6 dX35_addOuter_106 rfl ?_
  refine w_iload_n dX35_addOuter_109 rfl rfl ?_
  obtain ⟨x7, b8, hf⟩ := Option.bind_eq_some_iff.mp hf
  refine x_rI b8 dX35_addOuter_110 ?_
  refine w_i2l dX35_addOuter_111 ?_
  refine w_ladd dX35_addOuter_112 ?_
  obtain ⟨h9, b10, hf⟩ := Option.bind_eq_some_iff.mp hf
  refine SX35_952 b10 dX35_addOuter_113 rfl ?_
  refine w_aload_n dX35_addOuter_116 rfl rfl ?_
  refine w_lconst dX35_addOuter_117 (v := 0) (by decide) ?_
  obtain ⟨h11, b12, hf⟩ := Option.bind_eq_some_iff.mp hf
  refine SX35_957 b12 dX35_addOuter_118 rfl ?_
  exact (pX35_addOuter_b121 hd hf).to ⟨rfl, rfl, rfl, trivial⟩
def fX35_addOuter_b85 (l0 : Nat) (l1 : Int32) (l2 : Int32) (h : eH) : Option (Unit × eH) :=
  if l2 = (2 : Int32) then
    fX35_addOuter_b95 l0 l1 l2 h
  else
    if ¬ l2 = (3 : Int32) then
      fX35_addOuter_b121 l0 l1 l2 h
    else
      fX35_addOuter_b95 l0 l1 l2 h
theorem pX35_addOuter_b85 {w : eW} {d : Nat} (hd : 0 ≤ d) {l0 : Nat} {l1 : Int32} {l2 : Int32} {h : eH} {q} (hf : fX35_addOuter_b85 l0 l1 l2 h = some q) : wp w d YX35_addOuter 85 [some (.ref l0), some (.int l1), some (.int l2)] [] h (e_is (e_rn c_V q)) := by
  unfold fX35_addOuter_b85 at hf
  refine w_iload_n dX35_addOuter_85 rfl rfl ?_
  refine w_iconst dX35_addOuter_86 (v := 2) (by decide) ?_
  refine w_icmp_eq 95 dX35_addOuter_87 (by decide) (fun c1 => ?_) (fun c1 => ?_)
  · replace hf := (if_pos (show l2 = (2 : Int32) from c1)).symm.trans hf
    exact (pX35_addOuter_b95 hd hf).to ⟨rfl, rfl, rfl, trivial⟩
  · replace hf := (if_neg (show ¬ (l2 = (2 : Int32)) from c1)).symm.trans hf
    refine w_iload_n dX35_addOuter_90 rfl rfl ?_
    refine w_iconst dX35_addOuter_91 (v := 3) (by decide) ?_
    refine w_icmp_ne 121 dX35_addOuter_92 (by decide) (fun c2 => ?_) (fun c2 => ?_)
    · replace hf := (if_pos (show ¬ l2 = (3 : Int32) from c2)).symm.trans hf
      exact (pX35_addOuter_b121 hd hf).to ⟨rfl, rfl, rfl, trivial⟩
    · replace hf := (if_neg (show ¬ (¬ l2 = (3 : Int32)) from (fun z => z c2))).symm.trans hf
      exact (pX35_addOuter_b95 hd hf).to ⟨rfl, rfl, rfl, trivial⟩
def fX35_addOuter (this : Nat) (p0 : Int32) (h : eH) : Option (Unit × eH) :=
  (g_A 34 h this 87).bind fun a1 =>
  (r_I 100 h a1 p0).bind fun x3 =>
  if ¬ x3 = (5 : Int32) then
    fX35_addOuter_b85 this p0 x3 h
  else
    (g_J 34 h this 79).bind fun x6 =>
    (g_J 34 h this 80).bind fun x8 =>
    (g_A 34 h this 89).bind fun a10 =>
    (r_I 100 h a10 p0).bind fun x12 =>
    (p_V 34 h this 79 (.long ((x6 + x8) + (x12).toInt64))).bind fun h14 =>
    (g_A 34 h14 this 90).bind fun a16 =>
    (r_I 100 h14 a16 p0).bind fun x18 =>
    (p_V 34 h14 this 80 (.long (x18).toInt64)).bind fun h20 =>
    (g_J 34 h20 this 80).bind fun x22 =>
    (g_I 34 h20 this 100).bind fun x24 =>
    if (lg_cmp x22 (x24).toInt64) ≤ 0 then
      fX35_addOuter_b85 this p0 x3 h20
    else
      (g_J 34 h20 this 79).bind fun x27 =>
      (g_J 34 h20 this 80).bind fun x29 =>
      (g_I 34 h20 this 100).bind fun x31 =>
      (p_V 34 h20 this 79 (.long ((x27 + x29) - (x31).toInt64))).bind fun h33 =>
      (g_I 34 h33 this 100).bind fun x35 =>
      (p_V 34 h33 this 80 (.long (x35).toInt64)).bind fun h37 =>
      fX35_addOuter_b85 this p0 x3 h37
theorem pX35_addOuter {w : eW} {d : Nat} (hd : 0 ≤ d) {this : Nat} {p0 : Int32} {h : eH} {q} (hf : fX35_addOuter this p0 h = some q) : wm w d YX35_addOuter [.ref this, .int p0] h (e_is (e_rn c_V q)) := by
  show wp w d YX35_addOuter 0 [some (.ref this), some (.int p0), none] [] h _
  unfold fX35_addOuter at hf
  refine w_aload_n dX35_addOuter_0 rfl rfl ?_
  obtain ⟨a1, b2, hf⟩ := Option.bind_eq_some_iff.mp hf
  refine GX35_195 b2 dX35_addOuter_1 rfl ?_
  refine w_iload_n dX35_addOuter_4 rfl rfl ?_
  obtain ⟨x3, b4, hf⟩ := Option.bind_eq_some_iff.mp hf
  refine x_rI b4 dX35_addOuter_5 ?_
  refine w_istore_n dX35_addOuter_6 rfl (by decide) (ls' := [some (.ref this), some (.int p0), some (.int x3)]) rfl ?_
  refine w_iload_n dX35_addOuter_7 rfl rfl ?_
  refine w_iconst dX35_addOuter_8 (v := 5) (by decide) ?_
  refine w_icmp_ne 85 dX35_addOuter_9 (by decide) (fun c5 => ?_) (fun c5 => ?_)
  · replace hf := (if_pos (show ¬ x3 = (5 : Int32) from c5)).symm.trans hf
    exact (pX35_addOuter_b85 hd hf).to ⟨rfl, rfl, rfl, trivial⟩
  · replace hf := (if_neg (show ¬ (¬ x3 = (5 : Int32)) from (fun z => z c5))).symm.trans hf
    refine w_aload_n dX35_addOuter_12 rfl rfl ?_
    refine w_aload_n dX35_addOuter_13 rfl rfl ?_
    obtain ⟨x6, b7, hf⟩ := Option.bind_eq_some_iff.mp hf
    refine GX35_952 b7 dX35_addOuter_14 rfl ?_
    refine w_aload_n dX35_addOuter_17 rfl rfl ?_
    obtain ⟨x8, b9, hf⟩ := Option.bind_eq_some_iff.mp hf
    refine GX35_957 b9 dX35_addOuter_18 rfl ?_
    refine w_ladd dX35_addOuter_21 ?_
    refine w_aload_n dX35_addOuter_22 rfl rfl ?_
    obtain ⟨a10, b11, hf⟩ := Option.bind_eq_some_iff.mp hf
    refine GX35_201 b11 dX35_addOuter_23 rfl ?_
    refine w_iload_n dX35_addOuter_26 rfl rfl ?_
    obtain ⟨x12, b13, hf⟩ := Option.bind_eq_some_iff.mp hf
    refine x_rI b13 dX35_addOuter_27 ?_
    refine w_i2l dX35_addOuter_28 ?_
    refine w_ladd dX35_addOuter_29 ?_
    obtain ⟨h14, b15, hf⟩ := Option.bind_eq_some_iff.mp hf
    refine SX35_952 b15 dX35_addOuter_30 rfl ?_
    refine w_aload_n dX35_addOuter_33 rfl rfl ?_
    refine w_aload_n dX35_addOuter_34 rfl rfl ?_
    obtain ⟨a16, b17, hf⟩ := Option.bind_eq_some_iff.mp hf
    refine GX35_204 b17 dX35_addOuter_35 rfl ?_
    refine w_iload_n dX35_addOuter_38 rfl rfl ?_
    obtain ⟨x18, b19, hf⟩ := Option.bind_eq_some_iff.mp hf
    refine x_rI b19 dX35_addOuter_39 ?_
    refine w_i2l dX35_addOuter_40 ?_
    obtain ⟨h20, b21, hf⟩ := Option.bind_eq_some_iff.mp hf
    refine SX35_957 b21 dX35_addOuter_41 rfl ?_
    refine w_aload_n dX35_addOuter_44 rfl rfl ?_
    obtain ⟨x22, b23, hf⟩ := Option.bind_eq_some_iff.mp hf
    refine GX35_957 b23 dX35_addOuter_45 rfl ?_
    refine w_aload_n dX35_addOuter_48 rfl rfl ?_
    obtain ⟨x24, b25, hf⟩ := Option.bind_eq_some_iff.mp hf
    refine GX35_1028 b25 dX35_addOuter_49 rfl ?_
    refine w_i2l dX35_addOuter_52 ?_
    refine w_lcmp dX35_addOuter_53 ?_
    refine w_if_le 85 dX35_addOuter_54 (by decide) (fun c26 => ?_) (fun c26 => ?_)
    · replace hf := (if_pos (show (lg_cmp x22 (x24).toInt64) ≤ 0 from c26)).symm.trans hf
      exact (pX35_addOuter_b85 hd hf).to ⟨rfl, rfl, rfl, trivial⟩
    · replace hf := (if_neg (show ¬ ((lg_cmp x22 (x24).toInt64) ≤ 0) from c26)).symm.trans hf
      refine w_aload_n dX35_addOuter_57 rfl rfl ?_
      refine w_aload_n dX35_addOuter_58 rfl rfl ?_
      obtain ⟨x27, b28, hf⟩ := Option.bind_eq_some_iff.mp hf
      refine GX35_952 b28 dX35_addOuter_59 rfl ?_
      refine w_aload_n dX35_addOuter_62 rfl rfl ?_
      obtain ⟨x29, b30, hf⟩ := Option.bind_eq_some_iff.mp hf
      refine GX35_957 b30 dX35_addOuter_63 rfl ?_
      refine w_ladd dX35_addOuter_66 ?_
      refine w_aload_n dX35_addOuter_67 rfl rfl ?_
      obtain ⟨x31, b32, hf⟩ := Option.bind_eq_some_iff.mp hf
      refine GX35_1028 b32 dX35_addOuter_68 rfl ?_
      refine w_i2l dX35_addOuter_71 ?_
      refine w_lsub dX35_addOuter_72 ?_
      obtain ⟨h33, b34, hf⟩ := Option.bind_eq_some_iff.mp hf
      refine SX35_952 b34 dX35_addOuter_73 rfl ?_
      refine w_aload_n dX35_addOuter_76 rfl rfl ?_
      refine w_aload_n dX35_addOuter_77 rfl rfl ?_
      obtain ⟨x35, b36, hf⟩ := Option.bind_eq_some_iff.mp hf
      refine GX35_1028 b36 dX35_addOuter_78 rfl ?_
      refine w_i2l dX35_addOuter_81 ?_
      obtain ⟨h37, b38, hf⟩ := Option.bind_eq_some_iff.mp hf
      refine SX35_957 b38 dX35_addOuter_82 rfl ?_
      exact (pX35_addOuter_b85 hd hf).to ⟨rfl, rfl, rfl, trivial⟩
abbrev cX35_nothing : ByteArray := prog_37_method_133_code
def yX35_nothing : MethodName := ⟨RX35, "nothing", "()V"⟩
def YX35_nothing : eY := (yX35_nothing, cX35_nothing, 2, none, [])
theorem mX35_nothing : e_mv YX35_nothing RX35 0 := ⟨q5487, qs318, q5488, by decide, by decide +kernel, (e_sig (by decide +kernel))⟩
theorem dX35_nothing_0 : decode cX35_nothing 0 = .ok (.aload_n 0, 1) := dc_42 (by decide +kernel)
theorem dX35_nothing_1 : decode cX35_nothing 1 = .ok (.iconst 1, 1) := dc_4 (by decide +kernel)
theorem dX35_nothing_2 : decode cX35_nothing 2 = .ok (.putfield 954, 3) := dc_181 (a := 3) (b := 186) (n := 954) (by decide +kernel)
theorem dX35_nothing_5 : decode cX35_nothing 5 = .ok (.aload_n 0, 1) := dc_42 (by decide +kernel)
theorem dX35_nothing_6 : decode cX35_nothing 6 = .ok (.lconst 0, 1) := dc_9 (by decide +kernel)
theorem dX35_nothing_7 : decode cX35_nothing 7 = .ok (.putfield 952, 3) := dc_181 (a := 3) (b := 184) (n := 952) (by decide +kernel)
theorem dX35_nothing_10 : decode cX35_nothing 10 = .ok (.aload_n 0, 1) := dc_42 (by decide +kernel)
theorem dX35_nothing_11 : decode cX35_nothing 11 = .ok (.lconst 0, 1) := dc_9 (by decide +kernel)
theorem dX35_nothing_12 : decode cX35_nothing 12 = .ok (.putfield 957, 3) := dc_181 (a := 3) (b := 189) (n := 957) (by decide +kernel)
theorem dX35_nothing_15 : decode cX35_nothing 15 = .ok (.aload_n 0, 1) := dc_42 (by decide +kernel)
theorem dX35_nothing_16 : decode cX35_nothing 16 = .ok (.lconst 0, 1) := dc_9 (by decide +kernel)
theorem dX35_nothing_17 : decode cX35_nothing 17 = .ok (.putfield 960, 3) := dc_181 (a := 3) (b := 192) (n := 960) (by decide +kernel)
theorem dX35_nothing_20 : decode cX35_nothing 20 = .ok (.aload_n 0, 1) := dc_42 (by decide +kernel)
theorem dX35_nothing_21 : decode cX35_nothing 21 = .ok (.lconst 0, 1) := dc_9 (by decide +kernel)
theorem dX35_nothing_22 : decode cX35_nothing 22 = .ok (.putfield 963, 3) := dc_181 (a := 3) (b := 195) (n := 963) (by decide +kernel)
theorem dX35_nothing_25 : decode cX35_nothing 25 = .ok (.aload_n 0, 1) := dc_42 (by decide +kernel)
theorem dX35_nothing_26 : decode cX35_nothing 26 = .ok (.lconst 0, 1) := dc_9 (by decide +kernel)
theorem dX35_nothing_27 : decode cX35_nothing 27 = .ok (.putfield 966, 3) := dc_181 (a := 3) (b := 198) (n := 966) (by decide +kernel)
theorem dX35_nothing_30 : decode cX35_nothing 30 = .ok (.iconst 0, 1) := dc_3 (by decide +kernel)
theorem dX35_nothing_31 : decode cX35_nothing 31 = .ok (.istore_n 1, 1) := dc_60 (by decide +kernel)
theorem dX35_nothing_32 : decode cX35_nothing 32 = .ok (.iload_n 1, 1) := dc_27 (by decide +kernel)
theorem dX35_nothing_33 : decode cX35_nothing 33 = .ok (.iconst 4, 1) := dc_7 (by decide +kernel)
theorem dX35_nothing_34 : decode cX35_nothing 34 = .ok (.if_icmp .ge 16, 3) := dc_162 (a := 0) (b := 16) (v := 16) (by decide +kernel)
theorem dX35_nothing_37 : decode cX35_nothing 37 = .ok (.aload_n 0, 1) := dc_42 (by decide +kernel)
theorem dX35_nothing_38 : decode cX35_nothing 38 = .ok (.getfield 188, 3) := dc_180 (a := 0) (b := 188) (n := 188) (by decide +kernel)
theorem dX35_nothing_41 : decode cX35_nothing 41 = .ok (.iload_n 1, 1) := dc_27 (by decide +kernel)
theorem dX35_nothing_42 : decode cX35_nothing 42 = .ok (.lconst 0, 1) := dc_9 (by decide +kernel)
theorem dX35_nothing_43 : decode cX35_nothing 43 = .ok (.lastore, 1) := dc_80 (by decide +kernel)
theorem dX35_nothing_44 : decode cX35_nothing 44 = .ok (.iinc 1 1, 3) := dc_132 (a := 1) (b := 1) (v := 1) (by decide +kernel)
theorem dX35_nothing_47 : decode cX35_nothing 47 = .ok (.goto (-15), 3) := dc_167 (a := 255) (b := 241) (v := -15) (by decide +kernel)
theorem dX35_nothing_50 : decode cX35_nothing 50 = .ok (.return_, 1) := dc_177 (by decide +kernel)
def fX35_nothing_b32 (N : Nat) : Nat → Nat → Int32 → eH → Option (Unit × eH)
  | 0, _, _, _ => none
  | n + 1, l0, l1, h =>
    if (4 : Int32) ≤ l1 then
      some ((), h)
    else
      (g_A 34 h l0 83).bind fun a2 =>
      (q_V 101 h a2 l1 (.long (0 : Int64))).bind fun h4 =>
      fX35_nothing_b32 N n l0 (l1 + (1 : Int32)) h4
theorem pX35_nothing_b32 {w : eW} {d : Nat} (hd : 0 ≤ d) {N : Nat} : ∀ (n : Nat) l0 l1 h q, fX35_nothing_b32 N n l0 l1 h = some q → wp w d YX35_nothing 32 [some (.ref l0), some (.int l1)] [] h (e_is (e_rn c_V q)) := by
  intro n
  induction n with
  | zero => intro l0 l1 h q hf; simp [fX35_nothing_b32] at hf
  | succ n ih =>
    intro l0 l1 h q hf
    rw [fX35_nothing_b32] at hf
    refine w_iload_n dX35_nothing_32 rfl rfl ?_
    refine w_iconst dX35_nothing_33 (v := 4) (by decide) ?_
    refine w_icmp_ge 50 dX35_nothing_34 (by decide) (fun c1 => ?_) (fun c1 => ?_)
    · replace hf := (if_pos (show (4 : Int32) ≤ l1 from c1)).symm.trans hf
      cases hf
      exact w_vret dX35_nothing_50 rfl rfl
    · replace hf := (if_neg (show ¬ ((4 : Int32) ≤ l1) from c1)).symm.trans hf
      refine w_aload_n dX35_nothing_37 rfl rfl ?_
      obtain ⟨a2, b3, hf⟩ := Option.bind_eq_some_iff.mp hf
      refine GX35_188 b3 dX35_nothing_38 rfl ?_
      refine w_iload_n dX35_nothing_41 rfl rfl ?_
      refine w_lconst dX35_nothing_42 (v := 0) (by decide) ?_
      obtain ⟨h4, b5, hf⟩ := Option.bind_eq_some_iff.mp hf
      refine x_qJ b5 dX35_nothing_43 ?_
      refine w_iinc dX35_nothing_44 (v := (l1 + (1 : Int32))) rfl rfl (by decide) (ls' := [some (.ref l0), some (.int (l1 + (1 : Int32)))]) rfl ?_
      refine w_goto 32 dX35_nothing_47 (by decide) ?_
      exact (ih _ _ _ _ hf).to ⟨rfl, rfl, trivial⟩
def fX35_nothing (N : Nat) (this : Nat) (h : eH) : Option (Unit × eH) :=
  (p_Z 34 h this 78 (1 : Int32)).bind fun h1 =>
  (p_V 34 h1 this 79 (.long (0 : Int64))).bind fun h3 =>
  (p_V 34 h3 this 80 (.long (0 : Int64))).bind fun h5 =>
  (p_V 34 h5 this 81 (.long (0 : Int64))).bind fun h7 =>
  (p_V 34 h7 this 82 (.long (0 : Int64))).bind fun h9 =>
  (p_V 34 h9 this 85 (.long (0 : Int64))).bind fun h11 =>
  fX35_nothing_b32 N N this (0 : Int32) h11
theorem pX35_nothing {w : eW} {d : Nat} (hd : 0 ≤ d) {N : Nat} {this : Nat} {h : eH} {q} (hf : fX35_nothing N this h = some q) : wm w d YX35_nothing [.ref this] h (e_is (e_rn c_V q)) := by
  show wp w d YX35_nothing 0 [some (.ref this), none] [] h _
  unfold fX35_nothing at hf
  refine w_aload_n dX35_nothing_0 rfl rfl ?_
  refine w_iconst dX35_nothing_1 (v := 1) (by decide) ?_
  obtain ⟨h1, b2, hf⟩ := Option.bind_eq_some_iff.mp hf
  refine SX35_954 b2 dX35_nothing_2 rfl ?_
  refine w_aload_n dX35_nothing_5 rfl rfl ?_
  refine w_lconst dX35_nothing_6 (v := 0) (by decide) ?_
  obtain ⟨h3, b4, hf⟩ := Option.bind_eq_some_iff.mp hf
  refine SX35_952 b4 dX35_nothing_7 rfl ?_
  refine w_aload_n dX35_nothing_10 rfl rfl ?_
  refine w_lconst dX35_nothing_11 (v := 0) (by decide) ?_
  obtain ⟨h5, b6, hf⟩ := Option.bind_eq_some_iff.mp hf
  refine SX35_957 b6 dX35_nothing_12 rfl ?_
  refine w_aload_n dX35_nothing_15 rfl rfl ?_
  refine w_lconst dX35_nothing_16 (v := 0) (by decide) ?_
  obtain ⟨h7, b8, hf⟩ := Option.bind_eq_some_iff.mp hf
  refine SX35_960 b8 dX35_nothing_17 rfl ?_
  refine w_aload_n dX35_nothing_20 rfl rfl ?_
  refine w_lconst dX35_nothing_21 (v := 0) (by decide) ?_
  obtain ⟨h9, b10, hf⟩ := Option.bind_eq_some_iff.mp hf
  refine SX35_963 b10 dX35_nothing_22 rfl ?_
  refine w_aload_n dX35_nothing_25 rfl rfl ?_
  refine w_lconst dX35_nothing_26 (v := 0) (by decide) ?_
  obtain ⟨h11, b12, hf⟩ := Option.bind_eq_some_iff.mp hf
  refine SX35_966 b12 dX35_nothing_27 rfl ?_
  refine w_iconst dX35_nothing_30 (v := 0) (by decide) ?_
  refine w_istore_n dX35_nothing_31 rfl (by decide) (ls' := [some (.ref this), some (.int (0 : Int32))]) rfl ?_
  exact (pX35_nothing_b32 hd N _ _ _ _ hf).to ⟨rfl, rfl, trivial⟩
abbrev cX35_addUpTo : ByteArray := prog_37_method_148_code
def yX35_addUpTo : MethodName := ⟨RX35, "addUpTo", "(I)V"⟩
def YX35_addUpTo : eY := (yX35_addUpTo, cX35_addUpTo, 5, none, [])
theorem mX35_addUpTo : e_mv YX35_addUpTo RX35 1 := ⟨q5483, qs317, q5484, by decide, by decide +kernel, (e_sig (by decide +kernel))⟩
theorem dX35_addUpTo_0 : decode cX35_addUpTo 0 = .ok (.aload_n 0, 1) := dc_42 (by decide +kernel)
theorem dX35_addUpTo_1 : decode cX35_addUpTo 1 = .ok (.invokevirtual 991, 3) := dc_182 (a := 3) (b := 223) (n := 991) (by decide +kernel)
theorem dX35_addUpTo_4 : decode cX35_addUpTo 4 = .ok (.aload_n 0, 1) := dc_42 (by decide +kernel)
theorem dX35_addUpTo_5 : decode cX35_addUpTo 5 = .ok (.getfield 1031, 3) := dc_180 (a := 4) (b := 7) (n := 1031) (by decide +kernel)
theorem dX35_addUpTo_8 : decode cX35_addUpTo 8 = .ok (.i2l, 1) := dc_133 (by decide +kernel)
theorem dX35_addUpTo_9 : decode cX35_addUpTo 9 = .ok (.aload_n 0, 1) := dc_42 (by decide +kernel)
theorem dX35_addUpTo_10 : decode cX35_addUpTo 10 = .ok (.getfield 201, 3) := dc_180 (a := 0) (b := 201) (n := 201) (by decide +kernel)
theorem dX35_addUpTo_13 : decode cX35_addUpTo 13 = .ok (.aload_n 0, 1) := dc_42 (by decide +kernel)
theorem dX35_addUpTo_14 : decode cX35_addUpTo 14 = .ok (.getfield 382, 3) := dc_180 (a := 1) (b := 126) (n := 382) (by decide +kernel)
theorem dX35_addUpTo_17 : decode cX35_addUpTo 17 = .ok (.iaload, 1) := dc_46 (by decide +kernel)
theorem dX35_addUpTo_18 : decode cX35_addUpTo 18 = .ok (.i2l, 1) := dc_133 (by decide +kernel)
theorem dX35_addUpTo_19 : decode cX35_addUpTo 19 = .ok (.lsub, 1) := dc_101 (by decide +kernel)
theorem dX35_addUpTo_20 : decode cX35_addUpTo 20 = .ok (.lstore_n 2, 1) := dc_65 (by decide +kernel)
theorem dX35_addUpTo_21 : decode cX35_addUpTo 21 = .ok (.aload_n 0, 1) := dc_42 (by decide +kernel)
theorem dX35_addUpTo_22 : decode cX35_addUpTo 22 = .ok (.lload_n 2, 1) := dc_32 (by decide +kernel)
theorem dX35_addUpTo_23 : decode cX35_addUpTo 23 = .ok (.lconst 0, 1) := dc_9 (by decide +kernel)
theorem dX35_addUpTo_24 : decode cX35_addUpTo 24 = .ok (.lcmp, 1) := dc_148 (by decide +kernel)
theorem dX35_addUpTo_25 : decode cX35_addUpTo 25 = .ok (.ifCond .ge 7, 3) := dc_156 (a := 0) (b := 7) (v := 7) (by decide +kernel)
theorem dX35_addUpTo_28 : decode cX35_addUpTo 28 = .ok (.lconst 0, 1) := dc_9 (by decide +kernel)
theorem dX35_addUpTo_29 : decode cX35_addUpTo 29 = .ok (.goto 4, 3) := dc_167 (a := 0) (b := 4) (v := 4) (by decide +kernel)
theorem dX35_addUpTo_32 : decode cX35_addUpTo 32 = .ok (.lload_n 2, 1) := dc_32 (by decide +kernel)
theorem dX35_addUpTo_33 : decode cX35_addUpTo 33 = .ok (.putfield 952, 3) := dc_181 (a := 3) (b := 184) (n := 952) (by decide +kernel)
theorem dX35_addUpTo_36 : decode cX35_addUpTo 36 = .ok (.aload_n 0, 1) := dc_42 (by decide +kernel)
theorem dX35_addUpTo_37 : decode cX35_addUpTo 37 = .ok (.getfield 382, 3) := dc_180 (a := 1) (b := 126) (n := 382) (by decide +kernel)
theorem dX35_addUpTo_40 : decode cX35_addUpTo 40 = .ok (.istore 4, 2) := dc_54 (a := 4) (by decide +kernel)
theorem dX35_addUpTo_42 : decode cX35_addUpTo 42 = .ok (.iload 4, 2) := dc_21 (a := 4) (by decide +kernel)
theorem dX35_addUpTo_44 : decode cX35_addUpTo 44 = .ok (.iload_n 1, 1) := dc_27 (by decide +kernel)
theorem dX35_addUpTo_45 : decode cX35_addUpTo 45 = .ok (.if_icmp .ge 15, 3) := dc_162 (a := 0) (b := 15) (v := 15) (by decide +kernel)
theorem dX35_addUpTo_48 : decode cX35_addUpTo 48 = .ok (.aload_n 0, 1) := dc_42 (by decide +kernel)
theorem dX35_addUpTo_49 : decode cX35_addUpTo 49 = .ok (.iload 4, 2) := dc_21 (a := 4) (by decide +kernel)
theorem dX35_addUpTo_51 : decode cX35_addUpTo 51 = .ok (.invokevirtual 1034, 3) := dc_182 (a := 4) (b := 10) (n := 1034) (by decide +kernel)
theorem dX35_addUpTo_54 : decode cX35_addUpTo 54 = .ok (.iinc 4 1, 3) := dc_132 (a := 4) (b := 1) (v := 1) (by decide +kernel)
theorem dX35_addUpTo_57 : decode cX35_addUpTo 57 = .ok (.goto (-15), 3) := dc_167 (a := 255) (b := 241) (v := -15) (by decide +kernel)
theorem dX35_addUpTo_60 : decode cX35_addUpTo 60 = .ok (.return_, 1) := dc_177 (by decide +kernel)
theorem GX35_1031 {w : eW} {d : Nat} {Y : eY} {pc : Nat} {ls : eL} {st : List Value} {h : eH} {Q : eO → eH → Prop} {a : Nat} {x : Int32} (hf : g_I 34 h a 99 = some x) (hd : decode Y.2.1 pc = .ok (.getfield 1031, 3)) (hY : Y.1.cls = RX35) (kk : wp w d Y (pc + 3) ls (.int x :: st) h Q) : wp w d Y pc ls (.ref a :: st) h Q := x_gI (ci := 34) (k := 99) hf hd rfl (by decide) (by rw [hY]; exact q4600) kk
theorem GX35_382 {w : eW} {d : Nat} {Y : eY} {pc : Nat} {ls : eL} {st : List Value} {h : eH} {Q : eO → eH → Prop} {a : Nat} {x : Int32} (hf : g_I 34 h a 95 = some x) (hd : decode Y.2.1 pc = .ok (.getfield 382, 3)) (hY : Y.1.cls = RX35) (kk : wp w d Y (pc + 3) ls (.int x :: st) h Q) : wp w d Y pc ls (.ref a :: st) h Q := x_gI (ci := 34) (k := 95) hf hd rfl (by decide) (by rw [hY]; exact q4596) kk
def fX35_addUpTo_b42 (N : Nat) : Nat → Nat → Int32 → Int32 → eH → Option (Unit × eH)
  | 0, _, _, _, _ => none
  | n + 1, l0, l1, l4, h =>
    if l1 ≤ l4 then
      some ((), h)
    else
      (k_ok 34 h l0).bind fun _ =>
      (fX35_addOuter l0 l4 h).bind fun q3 =>
      fX35_addUpTo_b42 N n l0 l1 (l4 + (1 : Int32)) q3.2
theorem pX35_addUpTo_b42 {w : eW} {d : Nat} (hd : 1 ≤ d + 1) {N : Nat} : ∀ (n : Nat) l0 l1 l4 h q, fX35_addUpTo_b42 N n l0 l1 l4 h = some q → wp w (d + 1) YX35_addUpTo 42 [some (.ref l0), some (.int l1), none, none, some (.int l4)] [] h (e_is (e_rn c_V q)) := by
  intro n
  induction n with
  | zero => intro l0 l1 l4 h q hf; simp [fX35_addUpTo_b42] at hf
  | succ n ih =>
    intro l0 l1 l4 h q hf
    rw [fX35_addUpTo_b42] at hf
    refine w_iload dX35_addUpTo_42 rfl ?_
    refine w_iload_n dX35_addUpTo_44 rfl rfl ?_
    refine w_icmp_ge 60 dX35_addUpTo_45 (by decide) (fun c1 => ?_) (fun c1 => ?_)
    · replace hf := (if_pos (show l1 ≤ l4 from c1)).symm.trans hf
      cases hf
      exact w_vret dX35_addUpTo_60 rfl rfl
    · replace hf := (if_neg (show ¬ (l1 ≤ l4) from c1)).symm.trans hf
      refine w_aload_n dX35_addUpTo_48 rfl rfl ?_
      refine w_iload dX35_addUpTo_49 rfl ?_
      obtain ⟨_, b2, hf⟩ := Option.bind_eq_some_iff.mp hf
      refine x_cnV hf (e_stV (Yc := YX35_addOuter) (ci := 34) (av := [.int l4]) (st := []) dX35_addUpTo_51 q5489 mX35_addOuter rfl (k_ok_some b2).1 (k_ok_some b2).2) mX35_addOuter.2.2.1 mX35_addOuter.2.2.2.2.1 (Nat.le_of_ble_eq_true rfl) (Nat.le_of_ble_eq_true rfl) (fun q hq => pX35_addOuter (by omega) hq) (fun q3 hf => ?_)
      refine w_iinc dX35_addUpTo_54 (v := (l4 + (1 : Int32))) rfl rfl (by decide) (ls' := [some (.ref l0), some (.int l1), none, none, some (.int (l4 + (1 : Int32)))]) rfl ?_
      refine w_goto 42 dX35_addUpTo_57 (by decide) ?_
      exact (ih _ _ _ _ _ hf).to ⟨rfl, rfl, rfl, trivial⟩
def fX35_addUpTo_b33 (N : Nat) (l0 : Nat) (l1 : Int32) (s0 : Nat) (s1 : Int64) (h : eH) : Option (Unit × eH) :=
  (p_V 34 h s0 79 (.long s1)).bind fun h1 =>
  (g_I 34 h1 l0 95).bind fun x3 =>
  fX35_addUpTo_b42 N N l0 l1 x3 h1
theorem pX35_addUpTo_b33 {w : eW} {d : Nat} (hd : 1 ≤ d + 1) {N : Nat} {l0 : Nat} {l1 : Int32} {s0 : Nat} {s1 : Int64} {h : eH} {q} (hf : fX35_addUpTo_b33 N l0 l1 s0 s1 h = some q) : wp w (d + 1) YX35_addUpTo 33 [some (.ref l0), some (.int l1), none, none, none] [.long s1, .ref s0] h (e_is (e_rn c_V q)) := by
  unfold fX35_addUpTo_b33 at hf
  obtain ⟨h1, b2, hf⟩ := Option.bind_eq_some_iff.mp hf
  refine SX35_952 b2 dX35_addUpTo_33 rfl ?_
  refine w_aload_n dX35_addUpTo_36 rfl rfl ?_
  obtain ⟨x3, b4, hf⟩ := Option.bind_eq_some_iff.mp hf
  refine GX35_382 b4 dX35_addUpTo_37 rfl ?_
  refine w_istore dX35_addUpTo_40 (by decide) (ls' := [some (.ref l0), some (.int l1), none, none, some (.int x3)]) rfl ?_
  exact (pX35_addUpTo_b42 hd N _ _ _ _ _ hf).to ⟨rfl, rfl, rfl, trivial⟩
def fX35_addUpTo (N : Nat) (this : Nat) (p0 : Int32) (h : eH) : Option (Unit × eH) :=
  (k_ok 34 h this).bind fun _ =>
  (fX35_nothing N this h).bind fun q2 =>
  (g_I 34 q2.2 this 99).bind fun x3 =>
  (g_A 34 q2.2 this 89).bind fun a5 =>
  (g_I 34 q2.2 this 95).bind fun x7 =>
  (r_I 100 q2.2 a5 x7).bind fun x9 =>
  if 0 ≤ (lg_cmp ((x3).toInt64 - (x9).toInt64) (0 : Int64)) then
    fX35_addUpTo_b33 N this p0 this ((x3).toInt64 - (x9).toInt64) q2.2
  else
    fX35_addUpTo_b33 N this p0 this (0 : Int64) q2.2
theorem pX35_addUpTo {w : eW} {d : Nat} (hd : 1 ≤ d) {N : Nat} {this : Nat} {p0 : Int32} {h : eH} {q} (hf : fX35_addUpTo N this p0 h = some q) : wm w d YX35_addUpTo [.ref this, .int p0] h (e_is (e_rn c_V q)) := by
  obtain ⟨d, rfl⟩ : ∃ e, d = e + 1 := ⟨d - 1, by omega⟩
  show wp w (d + 1) YX35_addUpTo 0 [some (.ref this), some (.int p0), none, none, none] [] h _
  unfold fX35_addUpTo at hf
  refine w_aload_n dX35_addUpTo_0 rfl rfl ?_
  obtain ⟨_, b1, hf⟩ := Option.bind_eq_some_iff.mp hf
  refine x_cnV hf (e_stV (Yc := YX35_nothing) (ci := 34) (av := []) (st := []) dX35_addUpTo_1 q5485 mX35_nothing rfl (k_ok_some b1).1 (k_ok_some b1).2) mX35_nothing.2.2.1 mX35_nothing.2.2.2.2.1 (Nat.le_of_ble_eq_true rfl) (Nat.le_of_ble_eq_true rfl) (fun q hq => pX35_nothing (by omega) hq) (fun q2 hf => ?_)
  refine w_aload_n dX35_addUpTo_4 rfl rfl ?_
  obtain ⟨x3, b4, hf⟩ := Option.bind_eq_some_iff.mp hf
  refine GX35_1031 b4 dX35_addUpTo_5 rfl ?_
  refine w_i2l dX35_addUpTo_8 ?_
  refine w_aload_n dX35_addUpTo_9 rfl rfl ?_
  obtain ⟨a5, b6, hf⟩ := Option.bind_eq_some_iff.mp hf
  refine GX35_201 b6 dX35_addUpTo_10 rfl ?_
  refine w_aload_n dX35_addUpTo_13 rfl rfl ?_
  obtain ⟨x7, b8, hf⟩ := Option.bind_eq_some_iff.mp hf
  refine GX35_382 b8 dX35_addUpTo_14 rfl ?_
  obtain ⟨x9, b10, hf⟩ := Option.bind_eq_some_iff.mp hf
  refine x_rI b10 dX35_addUpTo_17 ?_
  refine w_i2l dX35_addUpTo_18 ?_
  refine w_lsub dX35_addUpTo_19 ?_
  refine w_lstore_n dX35_addUpTo_20 rfl (by decide) (ls' := [some (.ref this), some (.int p0), some (.long ((x3).toInt64 - (x9).toInt64)), none, none]) rfl ?_
  refine w_aload_n dX35_addUpTo_21 rfl rfl ?_
  refine w_lload_n dX35_addUpTo_22 rfl rfl ?_
  refine w_lconst dX35_addUpTo_23 (v := 0) (by decide) ?_
  refine w_lcmp dX35_addUpTo_24 ?_
  refine w_if_ge 32 dX35_addUpTo_25 (by decide) (fun c11 => ?_) (fun c11 => ?_)
  · replace hf := (if_pos (show 0 ≤ (lg_cmp ((x3).toInt64 - (x9).toInt64) (0 : Int64)) from c11)).symm.trans hf
    refine w_lload_n dX35_addUpTo_32 rfl rfl ?_
    exact (pX35_addUpTo_b33 hd hf).to ⟨rfl, rfl, trivial⟩
  · replace hf := (if_neg (show ¬ (0 ≤ (lg_cmp ((x3).toInt64 - (x9).toInt64) (0 : Int64))) from c11)).symm.trans hf
    refine w_lconst dX35_addUpTo_28 (v := 0) (by decide) ?_
    refine w_goto 33 dX35_addUpTo_29 (by decide) ?_
    exact (pX35_addUpTo_b33 hd hf).to ⟨rfl, rfl, trivial⟩
abbrev cX35_isNear : ByteArray := prog_37_method_161_code
def yX35_isNear : MethodName := ⟨RX35, "isNear", "(J)Z"⟩
def YX35_isNear : eY := (yX35_isNear, cX35_isNear, 2, (Option.some FieldType.boolean), [])
theorem mX35_isNear : e_ms YX35_isNear 1 := ⟨q5591, q466, q5592, by decide, by decide +kernel, (e_sig (by decide +kernel))⟩
theorem dX35_isNear_0 : decode cX35_isNear 0 = .ok (.lload_n 0, 1) := dc_30 (by decide +kernel)
theorem dX35_isNear_1 : decode cX35_isNear 1 = .ok (.ldc2_w 1094, 3) := dc_20 (a := 4) (b := 70) (n := 1094) (by decide +kernel)
theorem dX35_isNear_4 : decode cX35_isNear 4 = .ok (.lcmp, 1) := dc_148 (by decide +kernel)
theorem dX35_isNear_5 : decode cX35_isNear 5 = .ok (.ifCond .lt 15, 3) := dc_155 (a := 0) (b := 15) (v := 15) (by decide +kernel)
theorem dX35_isNear_8 : decode cX35_isNear 8 = .ok (.lload_n 0, 1) := dc_30 (by decide +kernel)
theorem dX35_isNear_9 : decode cX35_isNear 9 = .ok (.ldc2_w 1096, 3) := dc_20 (a := 4) (b := 72) (n := 1096) (by decide +kernel)
theorem dX35_isNear_12 : decode cX35_isNear 12 = .ok (.lcmp, 1) := dc_148 (by decide +kernel)
theorem dX35_isNear_13 : decode cX35_isNear 13 = .ok (.ifCond .gt 7, 3) := dc_157 (a := 0) (b := 7) (v := 7) (by decide +kernel)
theorem dX35_isNear_16 : decode cX35_isNear 16 = .ok (.iconst 1, 1) := dc_4 (by decide +kernel)
theorem dX35_isNear_17 : decode cX35_isNear 17 = .ok (.goto 4, 3) := dc_167 (a := 0) (b := 4) (v := 4) (by decide +kernel)
theorem dX35_isNear_20 : decode cX35_isNear 20 = .ok (.iconst 0, 1) := dc_3 (by decide +kernel)
theorem dX35_isNear_21 : decode cX35_isNear 21 = .ok (.ireturn, 1) := dc_172 (by decide +kernel)
def fX35_isNear_b21 (s0 : Int32) (h : eH) : Option (Int32 × eH) :=
  z_r s0 (s0, h)
theorem pX35_isNear_b21 {w : eW} {d : Nat} (hd : 0 ≤ d) {s0 : Int32} {h : eH} {q} (hf : fX35_isNear_b21 s0 h = some q) : wp w d YX35_isNear 21 [none, none] [.int s0] h (e_is (e_rn c_I q)) := by
  unfold fX35_isNear_b21 at hf
  obtain ⟨b1, rfl⟩ := z_r_some hf
  exact w_iret dX35_isNear_21 rfl b1 rfl
def fX35_isNear_b20  (h : eH) : Option (Int32 × eH) :=
  fX35_isNear_b21 (0 : Int32) h
theorem pX35_isNear_b20 {w : eW} {d : Nat} (hd : 0 ≤ d)  {h : eH} {q} (hf : fX35_isNear_b20  h = some q) : wp w d YX35_isNear 20 [none, none] [] h (e_is (e_rn c_I q)) := by
  unfold fX35_isNear_b20 at hf
  refine w_iconst dX35_isNear_20 (v := 0) (by decide) ?_
  exact (pX35_isNear_b21 hd hf).to trivial
def fX35_isNear (p0 : Int64) (h : eH) : Option (Int32 × eH) :=
  if (lg_cmp p0 (-1000000000 : Int64)) < 0 then
    fX35_isNear_b20 h
  else
    if 0 < (lg_cmp p0 (1000000000 : Int64)) then
      fX35_isNear_b20 h
    else
      fX35_isNear_b21 (1 : Int32) h
theorem pX35_isNear {w : eW} {d : Nat} (hd : 0 ≤ d) {p0 : Int64} {h : eH} {q} (hf : fX35_isNear p0 h = some q) : wm w d YX35_isNear [.long p0] h (e_is (e_rn c_I q)) := by
  show wp w d YX35_isNear 0 [some (.long p0), none] [] h _
  unfold fX35_isNear at hf
  refine w_lload_n dX35_isNear_0 rfl rfl ?_
  refine w_ldc2 dX35_isNear_1 q5593 ?_
  refine w_lcmp dX35_isNear_4 ?_
  refine w_if_lt 20 dX35_isNear_5 (by decide) (fun c1 => ?_) (fun c1 => ?_)
  · replace hf := (if_pos (show (lg_cmp p0 (-1000000000 : Int64)) < 0 from c1)).symm.trans hf
    exact (pX35_isNear_b20 hd hf).to trivial
  · replace hf := (if_neg (show ¬ ((lg_cmp p0 (-1000000000 : Int64)) < 0) from c1)).symm.trans hf
    refine w_lload_n dX35_isNear_8 rfl rfl ?_
    refine w_ldc2 dX35_isNear_9 q5594 ?_
    refine w_lcmp dX35_isNear_12 ?_
    refine w_if_gt 20 dX35_isNear_13 (by decide) (fun c2 => ?_) (fun c2 => ?_)
    · replace hf := (if_pos (show 0 < (lg_cmp p0 (1000000000 : Int64)) from c2)).symm.trans hf
      exact (pX35_isNear_b20 hd hf).to trivial
    · replace hf := (if_neg (show ¬ (0 < (lg_cmp p0 (1000000000 : Int64))) from c2)).symm.trans hf
      refine w_iconst dX35_isNear_16 (v := 1) (by decide) ?_
      refine w_goto 21 dX35_isNear_17 (by decide) ?_
      exact (pX35_isNear_b21 hd hf).to trivial
abbrev cX35_areNear : ByteArray := prog_37_method_162_code
def yX35_areNear : MethodName := ⟨RX35, "areNear", "()Z"⟩
def YX35_areNear : eY := (yX35_areNear, cX35_areNear, 6, (Option.some FieldType.boolean), [])
theorem mX35_areNear : e_mv YX35_areNear RX35 0 := ⟨q5588, qs338, q5589, by decide, by decide +kernel, (e_sig (by decide +kernel))⟩
theorem dX35_areNear_0 : decode cX35_areNear 0 = .ok (.iconst 1, 1) := dc_4 (by decide +kernel)
theorem dX35_areNear_1 : decode cX35_areNear 1 = .ok (.istore_n 1, 1) := dc_60 (by decide +kernel)
theorem dX35_areNear_2 : decode cX35_areNear 2 = .ok (.iconst 0, 1) := dc_3 (by decide +kernel)
theorem dX35_areNear_3 : decode cX35_areNear 3 = .ok (.istore_n 2, 1) := dc_61 (by decide +kernel)
theorem dX35_areNear_4 : decode cX35_areNear 4 = .ok (.iload_n 2, 1) := dc_28 (by decide +kernel)
theorem dX35_areNear_5 : decode cX35_areNear 5 = .ok (.aload_n 0, 1) := dc_42 (by decide +kernel)
theorem dX35_areNear_6 : decode cX35_areNear 6 = .ok (.getfield 1006, 3) := dc_180 (a := 3) (b := 238) (n := 1006) (by decide +kernel)
theorem dX35_areNear_9 : decode cX35_areNear 9 = .ok (.if_icmp .ge 151, 3) := dc_162 (a := 0) (b := 151) (v := 151) (by decide +kernel)
theorem dX35_areNear_12 : decode cX35_areNear 12 = .ok (.aload_n 0, 1) := dc_42 (by decide +kernel)
theorem dX35_areNear_13 : decode cX35_areNear 13 = .ok (.getfield 216, 3) := dc_180 (a := 0) (b := 216) (n := 216) (by decide +kernel)
theorem dX35_areNear_16 : decode cX35_areNear 16 = .ok (.iload_n 2, 1) := dc_28 (by decide +kernel)
theorem dX35_areNear_17 : decode cX35_areNear 17 = .ok (.iaload, 1) := dc_46 (by decide +kernel)
theorem dX35_areNear_18 : decode cX35_areNear 18 = .ok (.ifCond .ge 7, 3) := dc_156 (a := 0) (b := 7) (v := 7) (by decide +kernel)
theorem dX35_areNear_21 : decode cX35_areNear 21 = .ok (.iconst 1, 1) := dc_4 (by decide +kernel)
theorem dX35_areNear_22 : decode cX35_areNear 22 = .ok (.goto 4, 3) := dc_167 (a := 0) (b := 4) (v := 4) (by decide +kernel)
theorem dX35_areNear_25 : decode cX35_areNear 25 = .ok (.iconst 0, 1) := dc_3 (by decide +kernel)
theorem dX35_areNear_26 : decode cX35_areNear 26 = .ok (.istore_n 3, 1) := dc_62 (by decide +kernel)
theorem dX35_areNear_27 : decode cX35_areNear 27 = .ok (.iload_n 3, 1) := dc_29 (by decide +kernel)
theorem dX35_areNear_28 : decode cX35_areNear 28 = .ok (.ifCond .eq 19, 3) := dc_153 (a := 0) (b := 19) (v := 19) (by decide +kernel)
theorem dX35_areNear_31 : decode cX35_areNear 31 = .ok (.aload_n 0, 1) := dc_42 (by decide +kernel)
theorem dX35_areNear_32 : decode cX35_areNear 32 = .ok (.getfield 225, 3) := dc_180 (a := 0) (b := 225) (n := 225) (by decide +kernel)
theorem dX35_areNear_35 : decode cX35_areNear 35 = .ok (.iload_n 2, 1) := dc_28 (by decide +kernel)
theorem dX35_areNear_36 : decode cX35_areNear 36 = .ok (.laload, 1) := dc_47 (by decide +kernel)
theorem dX35_areNear_37 : decode cX35_areNear 37 = .ok (.aload_n 0, 1) := dc_42 (by decide +kernel)
theorem dX35_areNear_38 : decode cX35_areNear 38 = .ok (.getfield 234, 3) := dc_180 (a := 0) (b := 234) (n := 234) (by decide +kernel)
theorem dX35_areNear_41 : decode cX35_areNear 41 = .ok (.iload_n 2, 1) := dc_28 (by decide +kernel)
theorem dX35_areNear_42 : decode cX35_areNear 42 = .ok (.laload, 1) := dc_47 (by decide +kernel)
theorem dX35_areNear_43 : decode cX35_areNear 43 = .ok (.ladd, 1) := dc_97 (by decide +kernel)
theorem dX35_areNear_44 : decode cX35_areNear 44 = .ok (.goto 9, 3) := dc_167 (a := 0) (b := 9) (v := 9) (by decide +kernel)
theorem dX35_areNear_47 : decode cX35_areNear 47 = .ok (.aload_n 0, 1) := dc_42 (by decide +kernel)
theorem dX35_areNear_48 : decode cX35_areNear 48 = .ok (.getfield 225, 3) := dc_180 (a := 0) (b := 225) (n := 225) (by decide +kernel)
theorem dX35_areNear_51 : decode cX35_areNear 51 = .ok (.iload_n 2, 1) := dc_28 (by decide +kernel)
theorem dX35_areNear_52 : decode cX35_areNear 52 = .ok (.laload, 1) := dc_47 (by decide +kernel)
theorem dX35_areNear_53 : decode cX35_areNear 53 = .ok (.lstore 4, 2) := dc_55 (a := 4) (by decide +kernel)
theorem dX35_areNear_55 : decode cX35_areNear 55 = .ok (.iload_n 1, 1) := dc_27 (by decide +kernel)
theorem dX35_areNear_56 : decode cX35_areNear 56 = .ok (.ifCond .eq 27, 3) := dc_153 (a := 0) (b := 27) (v := 27) (by decide +kernel)
theorem dX35_areNear_59 : decode cX35_areNear 59 = .ok (.aload_n 0, 1) := dc_42 (by decide +kernel)
theorem dX35_areNear_60 : decode cX35_areNear 60 = .ok (.getfield 222, 3) := dc_180 (a := 0) (b := 222) (n := 222) (by decide +kernel)
theorem dX35_areNear_63 : decode cX35_areNear 63 = .ok (.iload_n 2, 1) := dc_28 (by decide +kernel)
theorem dX35_areNear_64 : decode cX35_areNear 64 = .ok (.laload, 1) := dc_47 (by decide +kernel)
theorem dX35_areNear_65 : decode cX35_areNear 65 = .ok (.invokestatic 1098, 3) := dc_184 (a := 4) (b := 74) (n := 1098) (by decide +kernel)
theorem dX35_areNear_68 : decode cX35_areNear 68 = .ok (.ifCond .eq 15, 3) := dc_153 (a := 0) (b := 15) (v := 15) (by decide +kernel)
theorem dX35_areNear_71 : decode cX35_areNear 71 = .ok (.lload 4, 2) := dc_22 (a := 4) (by decide +kernel)
theorem dX35_areNear_73 : decode cX35_areNear 73 = .ok (.invokestatic 1098, 3) := dc_184 (a := 4) (b := 74) (n := 1098) (by decide +kernel)
theorem dX35_areNear_76 : decode cX35_areNear 76 = .ok (.ifCond .eq 7, 3) := dc_153 (a := 0) (b := 7) (v := 7) (by decide +kernel)
theorem dX35_areNear_79 : decode cX35_areNear 79 = .ok (.iconst 1, 1) := dc_4 (by decide +kernel)
theorem dX35_areNear_80 : decode cX35_areNear 80 = .ok (.goto 4, 3) := dc_167 (a := 0) (b := 4) (v := 4) (by decide +kernel)
theorem dX35_areNear_83 : decode cX35_areNear 83 = .ok (.iconst 0, 1) := dc_3 (by decide +kernel)
theorem dX35_areNear_84 : decode cX35_areNear 84 = .ok (.istore_n 1, 1) := dc_60 (by decide +kernel)
theorem dX35_areNear_85 : decode cX35_areNear 85 = .ok (.iload_n 1, 1) := dc_27 (by decide +kernel)
theorem dX35_areNear_86 : decode cX35_areNear 86 = .ok (.ifCond .eq 66, 3) := dc_153 (a := 0) (b := 66) (v := 66) (by decide +kernel)
theorem dX35_areNear_89 : decode cX35_areNear 89 = .ok (.iload_n 3, 1) := dc_29 (by decide +kernel)
theorem dX35_areNear_90 : decode cX35_areNear 90 = .ok (.ifCond .eq 39, 3) := dc_153 (a := 0) (b := 39) (v := 39) (by decide +kernel)
theorem dX35_areNear_93 : decode cX35_areNear 93 = .ok (.aload_n 0, 1) := dc_42 (by decide +kernel)
theorem dX35_areNear_94 : decode cX35_areNear 94 = .ok (.getfield 228, 3) := dc_180 (a := 0) (b := 228) (n := 228) (by decide +kernel)
theorem dX35_areNear_97 : decode cX35_areNear 97 = .ok (.iload_n 2, 1) := dc_28 (by decide +kernel)
theorem dX35_areNear_98 : decode cX35_areNear 98 = .ok (.laload, 1) := dc_47 (by decide +kernel)
theorem dX35_areNear_99 : decode cX35_areNear 99 = .ok (.ldc2_w 1096, 3) := dc_20 (a := 4) (b := 72) (n := 1096) (by decide +kernel)
theorem dX35_areNear_102 : decode cX35_areNear 102 = .ok (.lcmp, 1) := dc_148 (by decide +kernel)
theorem dX35_areNear_103 : decode cX35_areNear 103 = .ok (.ifCond .gt 49, 3) := dc_157 (a := 0) (b := 49) (v := 49) (by decide +kernel)
theorem dX35_areNear_106 : decode cX35_areNear 106 = .ok (.aload_n 0, 1) := dc_42 (by decide +kernel)
theorem dX35_areNear_107 : decode cX35_areNear 107 = .ok (.getfield 231, 3) := dc_180 (a := 0) (b := 231) (n := 231) (by decide +kernel)
theorem dX35_areNear_110 : decode cX35_areNear 110 = .ok (.iload_n 2, 1) := dc_28 (by decide +kernel)
theorem dX35_areNear_111 : decode cX35_areNear 111 = .ok (.laload, 1) := dc_47 (by decide +kernel)
theorem dX35_areNear_112 : decode cX35_areNear 112 = .ok (.aload_n 0, 1) := dc_42 (by decide +kernel)
theorem dX35_areNear_113 : decode cX35_areNear 113 = .ok (.getfield 234, 3) := dc_180 (a := 0) (b := 234) (n := 234) (by decide +kernel)
theorem dX35_areNear_116 : decode cX35_areNear 116 = .ok (.iload_n 2, 1) := dc_28 (by decide +kernel)
theorem dX35_areNear_117 : decode cX35_areNear 117 = .ok (.laload, 1) := dc_47 (by decide +kernel)
theorem dX35_areNear_118 : decode cX35_areNear 118 = .ok (.ladd, 1) := dc_97 (by decide +kernel)
theorem dX35_areNear_119 : decode cX35_areNear 119 = .ok (.ldc2_w 1096, 3) := dc_20 (a := 4) (b := 72) (n := 1096) (by decide +kernel)
theorem dX35_areNear_122 : decode cX35_areNear 122 = .ok (.lcmp, 1) := dc_148 (by decide +kernel)
theorem dX35_areNear_123 : decode cX35_areNear 123 = .ok (.ifCond .gt 29, 3) := dc_157 (a := 0) (b := 29) (v := 29) (by decide +kernel)
theorem dX35_areNear_126 : decode cX35_areNear 126 = .ok (.goto 22, 3) := dc_167 (a := 0) (b := 22) (v := 22) (by decide +kernel)
theorem dX35_areNear_129 : decode cX35_areNear 129 = .ok (.aload_n 0, 1) := dc_42 (by decide +kernel)
theorem dX35_areNear_130 : decode cX35_areNear 130 = .ok (.getfield 222, 3) := dc_180 (a := 0) (b := 222) (n := 222) (by decide +kernel)
theorem dX35_areNear_133 : decode cX35_areNear 133 = .ok (.iload_n 2, 1) := dc_28 (by decide +kernel)
theorem dX35_areNear_134 : decode cX35_areNear 134 = .ok (.laload, 1) := dc_47 (by decide +kernel)
theorem dX35_areNear_135 : decode cX35_areNear 135 = .ok (.aload_n 0, 1) := dc_42 (by decide +kernel)
theorem dX35_areNear_136 : decode cX35_areNear 136 = .ok (.getfield 228, 3) := dc_180 (a := 0) (b := 228) (n := 228) (by decide +kernel)
theorem dX35_areNear_139 : decode cX35_areNear 139 = .ok (.iload_n 2, 1) := dc_28 (by decide +kernel)
theorem dX35_areNear_140 : decode cX35_areNear 140 = .ok (.laload, 1) := dc_47 (by decide +kernel)
theorem dX35_areNear_141 : decode cX35_areNear 141 = .ok (.ladd, 1) := dc_97 (by decide +kernel)
theorem dX35_areNear_142 : decode cX35_areNear 142 = .ok (.invokestatic 1098, 3) := dc_184 (a := 4) (b := 74) (n := 1098) (by decide +kernel)
theorem dX35_areNear_145 : decode cX35_areNear 145 = .ok (.ifCond .eq 7, 3) := dc_153 (a := 0) (b := 7) (v := 7) (by decide +kernel)
theorem dX35_areNear_148 : decode cX35_areNear 148 = .ok (.iconst 1, 1) := dc_4 (by decide +kernel)
theorem dX35_areNear_149 : decode cX35_areNear 149 = .ok (.goto 4, 3) := dc_167 (a := 0) (b := 4) (v := 4) (by decide +kernel)
theorem dX35_areNear_152 : decode cX35_areNear 152 = .ok (.iconst 0, 1) := dc_3 (by decide +kernel)
theorem dX35_areNear_153 : decode cX35_areNear 153 = .ok (.istore_n 1, 1) := dc_60 (by decide +kernel)
theorem dX35_areNear_154 : decode cX35_areNear 154 = .ok (.iinc 2 1, 3) := dc_132 (a := 2) (b := 1) (v := 1) (by decide +kernel)
theorem dX35_areNear_157 : decode cX35_areNear 157 = .ok (.goto (-153), 3) := dc_167 (a := 255) (b := 103) (v := -153) (by decide +kernel)
theorem dX35_areNear_160 : decode cX35_areNear 160 = .ok (.iload_n 1, 1) := dc_27 (by decide +kernel)
theorem dX35_areNear_161 : decode cX35_areNear 161 = .ok (.ireturn, 1) := dc_172 (by decide +kernel)
theorem GX35_1006 {w : eW} {d : Nat} {Y : eY} {pc : Nat} {ls : eL} {st : List Value} {h : eH} {Q : eO → eH → Prop} {a : Nat} {x : Int32} (hf : g_I 34 h a 102 = some x) (hd : decode Y.2.1 pc = .ok (.getfield 1006, 3)) (hY : Y.1.cls = RX35) (kk : wp w d Y (pc + 3) ls (.int x :: st) h Q) : wp w d Y pc ls (.ref a :: st) h Q := x_gI (ci := 34) (k := 102) hf hd rfl (by decide) (by rw [hY]; exact q4603) kk
theorem GX35_216 {w : eW} {d : Nat} {Y : eY} {pc : Nat} {ls : eL} {st : List Value} {h : eH} {Q : eO → eH → Prop} {a : Nat} {x : Nat} (hf : g_A 34 h a 103 = some x) (hd : decode Y.2.1 pc = .ok (.getfield 216, 3)) (hY : Y.1.cls = RX35) (kk : wp w d Y (pc + 3) ls (.ref x :: st) h Q) : wp w d Y pc ls (.ref a :: st) h Q := x_gA (ci := 34) (k := 103) hf hd rfl (by decide) (by rw [hY]; exact q4604) kk
theorem GX35_222 {w : eW} {d : Nat} {Y : eY} {pc : Nat} {ls : eL} {st : List Value} {h : eH} {Q : eO → eH → Prop} {a : Nat} {x : Nat} (hf : g_A 34 h a 105 = some x) (hd : decode Y.2.1 pc = .ok (.getfield 222, 3)) (hY : Y.1.cls = RX35) (kk : wp w d Y (pc + 3) ls (.ref x :: st) h Q) : wp w d Y pc ls (.ref a :: st) h Q := x_gA (ci := 34) (k := 105) hf hd rfl (by decide) (by rw [hY]; exact q4606) kk
theorem GX35_225 {w : eW} {d : Nat} {Y : eY} {pc : Nat} {ls : eL} {st : List Value} {h : eH} {Q : eO → eH → Prop} {a : Nat} {x : Nat} (hf : g_A 34 h a 106 = some x) (hd : decode Y.2.1 pc = .ok (.getfield 225, 3)) (hY : Y.1.cls = RX35) (kk : wp w d Y (pc + 3) ls (.ref x :: st) h Q) : wp w d Y pc ls (.ref a :: st) h Q := x_gA (ci := 34) (k := 106) hf hd rfl (by decide) (by rw [hY]; exact q4607) kk
theorem GX35_228 {w : eW} {d : Nat} {Y : eY} {pc : Nat} {ls : eL} {st : List Value} {h : eH} {Q : eO → eH → Prop} {a : Nat} {x : Nat} (hf : g_A 34 h a 107 = some x) (hd : decode Y.2.1 pc = .ok (.getfield 228, 3)) (hY : Y.1.cls = RX35) (kk : wp w d Y (pc + 3) ls (.ref x :: st) h Q) : wp w d Y pc ls (.ref a :: st) h Q := x_gA (ci := 34) (k := 107) hf hd rfl (by decide) (by rw [hY]; exact q4608) kk
theorem GX35_231 {w : eW} {d : Nat} {Y : eY} {pc : Nat} {ls : eL} {st : List Value} {h : eH} {Q : eO → eH → Prop} {a : Nat} {x : Nat} (hf : g_A 34 h a 108 = some x) (hd : decode Y.2.1 pc = .ok (.getfield 231, 3)) (hY : Y.1.cls = RX35) (kk : wp w d Y (pc + 3) ls (.ref x :: st) h Q) : wp w d Y pc ls (.ref a :: st) h Q := x_gA (ci := 34) (k := 108) hf hd rfl (by decide) (by rw [hY]; exact q4609) kk
theorem GX35_234 {w : eW} {d : Nat} {Y : eY} {pc : Nat} {ls : eL} {st : List Value} {h : eH} {Q : eO → eH → Prop} {a : Nat} {x : Nat} (hf : g_A 34 h a 109 = some x) (hd : decode Y.2.1 pc = .ok (.getfield 234, 3)) (hY : Y.1.cls = RX35) (kk : wp w d Y (pc + 3) ls (.ref x :: st) h Q) : wp w d Y pc ls (.ref a :: st) h Q := x_gA (ci := 34) (k := 109) hf hd rfl (by decide) (by rw [hY]; exact q4610) kk
def fX35_areNear_b153 (N : Nat) (k4 : Nat → Int32 → Int32 → eH → Option (Int32 × eH)) (l0 : Nat) (l2 : Int32) (s0 : Int32) (h : eH) : Option (Int32 × eH) :=
  k4 l0 s0 (l2 + (1 : Int32)) h
theorem pX35_areNear_b153 {w : eW} {d : Nat} (hd : 1 ≤ d + 1) {N : Nat} {k4 : Nat → Int32 → Int32 → eH → Option (Int32 × eH)} (hk4 : ∀ l0 l1 l2 h q, k4 l0 l1 l2 h = some q → wp w (d + 1) YX35_areNear 4 [some (.ref l0), some (.int l1), some (.int l2), none, none, none] [] h (e_is (e_rn c_I q))) {l0 : Nat} {l2 : Int32} {s0 : Int32} {h : eH} {q} (hf : fX35_areNear_b153 N k4 l0 l2 s0 h = some q) : wp w (d + 1) YX35_areNear 153 [some (.ref l0), none, some (.int l2), none, none, none] [.int s0] h (e_is (e_rn c_I q)) := by
  unfold fX35_areNear_b153 at hf
  refine w_istore_n dX35_areNear_153 rfl (by decide) (ls' := [some (.ref l0), some (.int s0), some (.int l2), none, none, none]) rfl ?_
  refine w_iinc dX35_areNear_154 (v := (l2 + (1 : Int32))) rfl rfl (by decide) (ls' := [some (.ref l0), some (.int s0), some (.int (l2 + (1 : Int32))), none, none, none]) rfl ?_
  refine w_goto 4 dX35_areNear_157 (by decide) ?_
  exact (hk4 _ _ _ _ _ hf).to ⟨rfl, rfl, rfl, trivial⟩
def fX35_areNear_b148 (N : Nat) (k4 : Nat → Int32 → Int32 → eH → Option (Int32 × eH)) (l0 : Nat) (l2 : Int32) (h : eH) : Option (Int32 × eH) :=
  fX35_areNear_b153 N k4 l0 l2 (1 : Int32) h
theorem pX35_areNear_b148 {w : eW} {d : Nat} (hd : 1 ≤ d + 1) {N : Nat} {k4 : Nat → Int32 → Int32 → eH → Option (Int32 × eH)} (hk4 : ∀ l0 l1 l2 h q, k4 l0 l1 l2 h = some q → wp w (d + 1) YX35_areNear 4 [some (.ref l0), some (.int l1), some (.int l2), none, none, none] [] h (e_is (e_rn c_I q))) {l0 : Nat} {l2 : Int32} {h : eH} {q} (hf : fX35_areNear_b148 N k4 l0 l2 h = some q) : wp w (d + 1) YX35_areNear 148 [some (.ref l0), none, some (.int l2), none, none, none] [] h (e_is (e_rn c_I q)) := by
  unfold fX35_areNear_b148 at hf
  refine w_iconst dX35_areNear_148 (v := 1) (by decide) ?_
  refine w_goto 153 dX35_areNear_149 (by decide) ?_
  exact (pX35_areNear_b153 hd hk4 hf).to ⟨rfl, rfl, trivial⟩
def fX35_areNear_b152 (N : Nat) (k4 : Nat → Int32 → Int32 → eH → Option (Int32 × eH)) (l0 : Nat) (l2 : Int32) (h : eH) : Option (Int32 × eH) :=
  fX35_areNear_b153 N k4 l0 l2 (0 : Int32) h
theorem pX35_areNear_b152 {w : eW} {d : Nat} (hd : 1 ≤ d + 1) {N : Nat} {k4 : Nat → Int32 → Int32 → eH → Option (Int32 × eH)} (hk4 : ∀ l0 l1 l2 h q, k4 l0 l1 l2 h = some q → wp w (d + 1) YX35_areNear 4 [some (.ref l0), some (.int l1), some (.int l2), none, none, none] [] h (e_is (e_rn c_I q))) {l0 : Nat} {l2 : Int32} {h : eH} {q} (hf : fX35_areNear_b152 N k4 l0 l2 h = some q) : wp w (d + 1) YX35_areNear 152 [some (.ref l0), none, some (.int l2), none, none, none] [] h (e_is (e_rn c_I q)) := by
  unfold fX35_areNear_b152 at hf
  refine w_iconst dX35_areNear_152 (v := 0) (by decide) ?_
  exact (pX35_areNear_b153 hd hk4 hf).to ⟨rfl, rfl, trivial⟩
def fX35_areNear_b84 (N : Nat) (k4 : Nat → Int32 → Int32 → eH → Option (Int32 × eH)) (l0 : Nat) (l2 : Int32) (l3 : Int32) (s0 : Int32) (h : eH) : Option (Int32 × eH) :=
  if s0 = 0 then
    fX35_areNear_b152 N k4 l0 l2 h
  else
    if l3 = 0 then
      (g_A 34 h l0 105).bind fun a3 =>
      (r_J h a3 l2).bind fun x5 =>
      (g_A 34 h l0 107).bind fun a7 =>
      (r_J h a7 l2).bind fun x9 =>
      (fX35_isNear (x5 + x9) h).bind fun q11 =>
      if q11.1 = 0 then
        fX35_areNear_b152 N k4 l0 l2 q11.2
      else
        fX35_areNear_b148 N k4 l0 l2 q11.2
    else
      (g_A 34 h l0 107).bind fun a13 =>
      (r_J h a13 l2).bind fun x15 =>
      if 0 < (lg_cmp x15 (1000000000 : Int64)) then
        fX35_areNear_b152 N k4 l0 l2 h
      else
        (g_A 34 h l0 108).bind fun a18 =>
        (r_J h a18 l2).bind fun x20 =>
        (g_A 34 h l0 109).bind fun a22 =>
        (r_J h a22 l2).bind fun x24 =>
        if 0 < (lg_cmp (x20 + x24) (1000000000 : Int64)) then
          fX35_areNear_b152 N k4 l0 l2 h
        else
          fX35_areNear_b148 N k4 l0 l2 h
theorem pX35_areNear_b84 {w : eW} {d : Nat} (hd : 1 ≤ d + 1) {N : Nat} {k4 : Nat → Int32 → Int32 → eH → Option (Int32 × eH)} (hk4 : ∀ l0 l1 l2 h q, k4 l0 l1 l2 h = some q → wp w (d + 1) YX35_areNear 4 [some (.ref l0), some (.int l1), some (.int l2), none, none, none] [] h (e_is (e_rn c_I q))) {l0 : Nat} {l2 : Int32} {l3 : Int32} {s0 : Int32} {h : eH} {q} (hf : fX35_areNear_b84 N k4 l0 l2 l3 s0 h = some q) : wp w (d + 1) YX35_areNear 84 [some (.ref l0), none, some (.int l2), some (.int l3), none, none] [.int s0] h (e_is (e_rn c_I q)) := by
  unfold fX35_areNear_b84 at hf
  refine w_istore_n dX35_areNear_84 rfl (by decide) (ls' := [some (.ref l0), some (.int s0), some (.int l2), some (.int l3), none, none]) rfl ?_
  refine w_iload_n dX35_areNear_85 rfl rfl ?_
  refine w_if_eq 152 dX35_areNear_86 (by decide) (fun c1 => ?_) (fun c1 => ?_)
  · replace hf := (if_pos (show s0 = 0 from c1)).symm.trans hf
    exact (pX35_areNear_b152 hd hk4 hf).to ⟨rfl, rfl, trivial⟩
  · replace hf := (if_neg (show ¬ (s0 = 0) from c1)).symm.trans hf
    refine w_iload_n dX35_areNear_89 rfl rfl ?_
    refine w_if_eq 129 dX35_areNear_90 (by decide) (fun c2 => ?_) (fun c2 => ?_)
    · replace hf := (if_pos (show l3 = 0 from c2)).symm.trans hf
      refine w_aload_n dX35_areNear_129 rfl rfl ?_
      obtain ⟨a3, b4, hf⟩ := Option.bind_eq_some_iff.mp hf
      refine GX35_222 b4 dX35_areNear_130 rfl ?_
      refine w_iload_n dX35_areNear_133 rfl rfl ?_
      obtain ⟨x5, b6, hf⟩ := Option.bind_eq_some_iff.mp hf
      refine x_rJ b6 dX35_areNear_134 ?_
      refine w_aload_n dX35_areNear_135 rfl rfl ?_
      obtain ⟨a7, b8, hf⟩ := Option.bind_eq_some_iff.mp hf
      refine GX35_228 b8 dX35_areNear_136 rfl ?_
      refine w_iload_n dX35_areNear_139 rfl rfl ?_
      obtain ⟨x9, b10, hf⟩ := Option.bind_eq_some_iff.mp hf
      refine x_rJ b10 dX35_areNear_140 ?_
      refine w_ladd dX35_areNear_141 ?_
      refine x_cnI hf (e_stS (Yc := YX35_isNear) (av := [.long (x5 + x9)]) (st := []) dX35_areNear_142 q5590 mX35_isNear) mX35_isNear.2.2.1 mX35_isNear.2.2.2.2.1 (Nat.le_of_ble_eq_true rfl) (Nat.le_of_ble_eq_true rfl) (fun q hq => pX35_isNear (by omega) hq) (fun q11 hf => ?_)
      refine w_if_eq 152 dX35_areNear_145 (by decide) (fun c12 => ?_) (fun c12 => ?_)
      · replace hf := (if_pos (show q11.1 = 0 from c12)).symm.trans hf
        exact (pX35_areNear_b152 hd hk4 hf).to ⟨rfl, rfl, trivial⟩
      · replace hf := (if_neg (show ¬ (q11.1 = 0) from c12)).symm.trans hf
        exact (pX35_areNear_b148 hd hk4 hf).to ⟨rfl, rfl, trivial⟩
    · replace hf := (if_neg (show ¬ (l3 = 0) from c2)).symm.trans hf
      refine w_aload_n dX35_areNear_93 rfl rfl ?_
      obtain ⟨a13, b14, hf⟩ := Option.bind_eq_some_iff.mp hf
      refine GX35_228 b14 dX35_areNear_94 rfl ?_
      refine w_iload_n dX35_areNear_97 rfl rfl ?_
      obtain ⟨x15, b16, hf⟩ := Option.bind_eq_some_iff.mp hf
      refine x_rJ b16 dX35_areNear_98 ?_
      refine w_ldc2 dX35_areNear_99 q5594 ?_
      refine w_lcmp dX35_areNear_102 ?_
      refine w_if_gt 152 dX35_areNear_103 (by decide) (fun c17 => ?_) (fun c17 => ?_)
      · replace hf := (if_pos (show 0 < (lg_cmp x15 (1000000000 : Int64)) from c17)).symm.trans hf
        exact (pX35_areNear_b152 hd hk4 hf).to ⟨rfl, rfl, trivial⟩
      · replace hf := (if_neg (show ¬ (0 < (lg_cmp x15 (1000000000 : Int64))) from c17)).symm.trans hf
        refine w_aload_n dX35_areNear_106 rfl rfl ?_
        obtain ⟨a18, b19, hf⟩ := Option.bind_eq_some_iff.mp hf
        refine GX35_231 b19 dX35_areNear_107 rfl ?_
        refine w_iload_n dX35_areNear_110 rfl rfl ?_
        obtain ⟨x20, b21, hf⟩ := Option.bind_eq_some_iff.mp hf
        refine x_rJ b21 dX35_areNear_111 ?_
        refine w_aload_n dX35_areNear_112 rfl rfl ?_
        obtain ⟨a22, b23, hf⟩ := Option.bind_eq_some_iff.mp hf
        refine GX35_234 b23 dX35_areNear_113 rfl ?_
        refine w_iload_n dX35_areNear_116 rfl rfl ?_
        obtain ⟨x24, b25, hf⟩ := Option.bind_eq_some_iff.mp hf
        refine x_rJ b25 dX35_areNear_117 ?_
        refine w_ladd dX35_areNear_118 ?_
        refine w_ldc2 dX35_areNear_119 q5594 ?_
        refine w_lcmp dX35_areNear_122 ?_
        refine w_if_gt 152 dX35_areNear_123 (by decide) (fun c26 => ?_) (fun c26 => ?_)
        · replace hf := (if_pos (show 0 < (lg_cmp (x20 + x24) (1000000000 : Int64)) from c26)).symm.trans hf
          exact (pX35_areNear_b152 hd hk4 hf).to ⟨rfl, rfl, trivial⟩
        · replace hf := (if_neg (show ¬ (0 < (lg_cmp (x20 + x24) (1000000000 : Int64))) from c26)).symm.trans hf
          refine w_goto 148 dX35_areNear_126 (by decide) ?_
          exact (pX35_areNear_b148 hd hk4 hf).to ⟨rfl, rfl, trivial⟩
def fX35_areNear_b83 (N : Nat) (k4 : Nat → Int32 → Int32 → eH → Option (Int32 × eH)) (l0 : Nat) (l2 : Int32) (l3 : Int32) (h : eH) : Option (Int32 × eH) :=
  fX35_areNear_b84 N k4 l0 l2 l3 (0 : Int32) h
theorem pX35_areNear_b83 {w : eW} {d : Nat} (hd : 1 ≤ d + 1) {N : Nat} {k4 : Nat → Int32 → Int32 → eH → Option (Int32 × eH)} (hk4 : ∀ l0 l1 l2 h q, k4 l0 l1 l2 h = some q → wp w (d + 1) YX35_areNear 4 [some (.ref l0), some (.int l1), some (.int l2), none, none, none] [] h (e_is (e_rn c_I q))) {l0 : Nat} {l2 : Int32} {l3 : Int32} {h : eH} {q} (hf : fX35_areNear_b83 N k4 l0 l2 l3 h = some q) : wp w (d + 1) YX35_areNear 83 [some (.ref l0), none, some (.int l2), some (.int l3), none, none] [] h (e_is (e_rn c_I q)) := by
  unfold fX35_areNear_b83 at hf
  refine w_iconst dX35_areNear_83 (v := 0) (by decide) ?_
  exact (pX35_areNear_b84 hd hk4 hf).to ⟨rfl, rfl, rfl, trivial⟩
def fX35_areNear_b53 (N : Nat) (k4 : Nat → Int32 → Int32 → eH → Option (Int32 × eH)) (l0 : Nat) (l1 : Int32) (l2 : Int32) (l3 : Int32) (s0 : Int64) (h : eH) : Option (Int32 × eH) :=
  if l1 = 0 then
    fX35_areNear_b83 N k4 l0 l2 l3 h
  else
    (g_A 34 h l0 105).bind fun a2 =>
    (r_J h a2 l2).bind fun x4 =>
    (fX35_isNear x4 h).bind fun q6 =>
    if q6.1 = 0 then
      fX35_areNear_b83 N k4 l0 l2 l3 q6.2
    else
      (fX35_isNear s0 q6.2).bind fun q8 =>
      if q8.1 = 0 then
        fX35_areNear_b83 N k4 l0 l2 l3 q8.2
      else
        fX35_areNear_b84 N k4 l0 l2 l3 (1 : Int32) q8.2
theorem pX35_areNear_b53 {w : eW} {d : Nat} (hd : 1 ≤ d + 1) {N : Nat} {k4 : Nat → Int32 → Int32 → eH → Option (Int32 × eH)} (hk4 : ∀ l0 l1 l2 h q, k4 l0 l1 l2 h = some q → wp w (d + 1) YX35_areNear 4 [some (.ref l0), some (.int l1), some (.int l2), none, none, none] [] h (e_is (e_rn c_I q))) {l0 : Nat} {l1 : Int32} {l2 : Int32} {l3 : Int32} {s0 : Int64} {h : eH} {q} (hf : fX35_areNear_b53 N k4 l0 l1 l2 l3 s0 h = some q) : wp w (d + 1) YX35_areNear 53 [some (.ref l0), some (.int l1), some (.int l2), some (.int l3), none, none] [.long s0] h (e_is (e_rn c_I q)) := by
  unfold fX35_areNear_b53 at hf
  refine w_lstore dX35_areNear_53 (by decide) (ls' := [some (.ref l0), some (.int l1), some (.int l2), some (.int l3), some (.long s0), none]) rfl ?_
  refine w_iload_n dX35_areNear_55 rfl rfl ?_
  refine w_if_eq 83 dX35_areNear_56 (by decide) (fun c1 => ?_) (fun c1 => ?_)
  · replace hf := (if_pos (show l1 = 0 from c1)).symm.trans hf
    exact (pX35_areNear_b83 hd hk4 hf).to ⟨rfl, rfl, rfl, trivial⟩
  · replace hf := (if_neg (show ¬ (l1 = 0) from c1)).symm.trans hf
    refine w_aload_n dX35_areNear_59 rfl rfl ?_
    obtain ⟨a2, b3, hf⟩ := Option.bind_eq_some_iff.mp hf
    refine GX35_222 b3 dX35_areNear_60 rfl ?_
    refine w_iload_n dX35_areNear_63 rfl rfl ?_
    obtain ⟨x4, b5, hf⟩ := Option.bind_eq_some_iff.mp hf
    refine x_rJ b5 dX35_areNear_64 ?_
    refine x_cnI hf (e_stS (Yc := YX35_isNear) (av := [.long x4]) (st := []) dX35_areNear_65 q5590 mX35_isNear) mX35_isNear.2.2.1 mX35_isNear.2.2.2.2.1 (Nat.le_of_ble_eq_true rfl) (Nat.le_of_ble_eq_true rfl) (fun q hq => pX35_isNear (by omega) hq) (fun q6 hf => ?_)
    refine w_if_eq 83 dX35_areNear_68 (by decide) (fun c7 => ?_) (fun c7 => ?_)
    · replace hf := (if_pos (show q6.1 = 0 from c7)).symm.trans hf
      exact (pX35_areNear_b83 hd hk4 hf).to ⟨rfl, rfl, rfl, trivial⟩
    · replace hf := (if_neg (show ¬ (q6.1 = 0) from c7)).symm.trans hf
      refine w_lload dX35_areNear_71 rfl ?_
      refine x_cnI hf (e_stS (Yc := YX35_isNear) (av := [.long s0]) (st := []) dX35_areNear_73 q5590 mX35_isNear) mX35_isNear.2.2.1 mX35_isNear.2.2.2.2.1 (Nat.le_of_ble_eq_true rfl) (Nat.le_of_ble_eq_true rfl) (fun q hq => pX35_isNear (by omega) hq) (fun q8 hf => ?_)
      refine w_if_eq 83 dX35_areNear_76 (by decide) (fun c9 => ?_) (fun c9 => ?_)
      · replace hf := (if_pos (show q8.1 = 0 from c9)).symm.trans hf
        exact (pX35_areNear_b83 hd hk4 hf).to ⟨rfl, rfl, rfl, trivial⟩
      · replace hf := (if_neg (show ¬ (q8.1 = 0) from c9)).symm.trans hf
        refine w_iconst dX35_areNear_79 (v := 1) (by decide) ?_
        refine w_goto 84 dX35_areNear_80 (by decide) ?_
        exact (pX35_areNear_b84 hd hk4 hf).to ⟨rfl, rfl, rfl, trivial⟩
def fX35_areNear_b26 (N : Nat) (k4 : Nat → Int32 → Int32 → eH → Option (Int32 × eH)) (l0 : Nat) (l1 : Int32) (l2 : Int32) (s0 : Int32) (h : eH) : Option (Int32 × eH) :=
  if s0 = 0 then
    (g_A 34 h l0 106).bind fun a2 =>
    (r_J h a2 l2).bind fun x4 =>
    fX35_areNear_b53 N k4 l0 l1 l2 s0 x4 h
  else
    (g_A 34 h l0 106).bind fun a6 =>
    (r_J h a6 l2).bind fun x8 =>
    (g_A 34 h l0 109).bind fun a10 =>
    (r_J h a10 l2).bind fun x12 =>
    fX35_areNear_b53 N k4 l0 l1 l2 s0 (x8 + x12) h
theorem pX35_areNear_b26 {w : eW} {d : Nat} (hd : 1 ≤ d + 1) {N : Nat} {k4 : Nat → Int32 → Int32 → eH → Option (Int32 × eH)} (hk4 : ∀ l0 l1 l2 h q, k4 l0 l1 l2 h = some q → wp w (d + 1) YX35_areNear 4 [some (.ref l0), some (.int l1), some (.int l2), none, none, none] [] h (e_is (e_rn c_I q))) {l0 : Nat} {l1 : Int32} {l2 : Int32} {s0 : Int32} {h : eH} {q} (hf : fX35_areNear_b26 N k4 l0 l1 l2 s0 h = some q) : wp w (d + 1) YX35_areNear 26 [some (.ref l0), some (.int l1), some (.int l2), none, none, none] [.int s0] h (e_is (e_rn c_I q)) := by
  unfold fX35_areNear_b26 at hf
  refine w_istore_n dX35_areNear_26 rfl (by decide) (ls' := [some (.ref l0), some (.int l1), some (.int l2), some (.int s0), none, none]) rfl ?_
  refine w_iload_n dX35_areNear_27 rfl rfl ?_
  refine w_if_eq 47 dX35_areNear_28 (by decide) (fun c1 => ?_) (fun c1 => ?_)
  · replace hf := (if_pos (show s0 = 0 from c1)).symm.trans hf
    refine w_aload_n dX35_areNear_47 rfl rfl ?_
    obtain ⟨a2, b3, hf⟩ := Option.bind_eq_some_iff.mp hf
    refine GX35_225 b3 dX35_areNear_48 rfl ?_
    refine w_iload_n dX35_areNear_51 rfl rfl ?_
    obtain ⟨x4, b5, hf⟩ := Option.bind_eq_some_iff.mp hf
    refine x_rJ b5 dX35_areNear_52 ?_
    exact (pX35_areNear_b53 hd hk4 hf).to ⟨rfl, rfl, rfl, rfl, trivial⟩
  · replace hf := (if_neg (show ¬ (s0 = 0) from c1)).symm.trans hf
    refine w_aload_n dX35_areNear_31 rfl rfl ?_
    obtain ⟨a6, b7, hf⟩ := Option.bind_eq_some_iff.mp hf
    refine GX35_225 b7 dX35_areNear_32 rfl ?_
    refine w_iload_n dX35_areNear_35 rfl rfl ?_
    obtain ⟨x8, b9, hf⟩ := Option.bind_eq_some_iff.mp hf
    refine x_rJ b9 dX35_areNear_36 ?_
    refine w_aload_n dX35_areNear_37 rfl rfl ?_
    obtain ⟨a10, b11, hf⟩ := Option.bind_eq_some_iff.mp hf
    refine GX35_234 b11 dX35_areNear_38 rfl ?_
    refine w_iload_n dX35_areNear_41 rfl rfl ?_
    obtain ⟨x12, b13, hf⟩ := Option.bind_eq_some_iff.mp hf
    refine x_rJ b13 dX35_areNear_42 ?_
    refine w_ladd dX35_areNear_43 ?_
    refine w_goto 53 dX35_areNear_44 (by decide) ?_
    exact (pX35_areNear_b53 hd hk4 hf).to ⟨rfl, rfl, rfl, rfl, trivial⟩
def fX35_areNear_b4 (N : Nat) : Nat → Nat → Int32 → Int32 → eH → Option (Int32 × eH)
  | 0, _, _, _, _ => none
  | n + 1, l0, l1, l2, h =>
    (g_I 34 h l0 102).bind fun x1 =>
    if x1 ≤ l2 then
      z_r l1 (l1, h)
    else
      (g_A 34 h l0 103).bind fun a5 =>
      (r_I 100 h a5 l2).bind fun x7 =>
      if 0 ≤ x7 then
        fX35_areNear_b26 N (fX35_areNear_b4 N n) l0 l1 l2 (0 : Int32) h
      else
        fX35_areNear_b26 N (fX35_areNear_b4 N n) l0 l1 l2 (1 : Int32) h
theorem pX35_areNear_b4 {w : eW} {d : Nat} (hd : 1 ≤ d + 1) {N : Nat} : ∀ (n : Nat) l0 l1 l2 h q, fX35_areNear_b4 N n l0 l1 l2 h = some q → wp w (d + 1) YX35_areNear 4 [some (.ref l0), some (.int l1), some (.int l2), none, none, none] [] h (e_is (e_rn c_I q)) := by
  intro n
  induction n with
  | zero => intro l0 l1 l2 h q hf; simp [fX35_areNear_b4] at hf
  | succ n ih =>
    intro l0 l1 l2 h q hf
    rw [fX35_areNear_b4] at hf
    refine w_iload_n dX35_areNear_4 rfl rfl ?_
    refine w_aload_n dX35_areNear_5 rfl rfl ?_
    obtain ⟨x1, b2, hf⟩ := Option.bind_eq_some_iff.mp hf
    refine GX35_1006 b2 dX35_areNear_6 rfl ?_
    refine w_icmp_ge 160 dX35_areNear_9 (by decide) (fun c3 => ?_) (fun c3 => ?_)
    · replace hf := (if_pos (show x1 ≤ l2 from c3)).symm.trans hf
      refine w_iload_n dX35_areNear_160 rfl rfl ?_
      obtain ⟨b4, rfl⟩ := z_r_some hf
      exact w_iret dX35_areNear_161 rfl b4 rfl
    · replace hf := (if_neg (show ¬ (x1 ≤ l2) from c3)).symm.trans hf
      refine w_aload_n dX35_areNear_12 rfl rfl ?_
      obtain ⟨a5, b6, hf⟩ := Option.bind_eq_some_iff.mp hf
      refine GX35_216 b6 dX35_areNear_13 rfl ?_
      refine w_iload_n dX35_areNear_16 rfl rfl ?_
      obtain ⟨x7, b8, hf⟩ := Option.bind_eq_some_iff.mp hf
      refine x_rI b8 dX35_areNear_17 ?_
      refine w_if_ge 25 dX35_areNear_18 (by decide) (fun c9 => ?_) (fun c9 => ?_)
      · replace hf := (if_pos (show 0 ≤ x7 from c9)).symm.trans hf
        refine w_iconst dX35_areNear_25 (v := 0) (by decide) ?_
        exact (pX35_areNear_b26 hd ih hf).to ⟨rfl, rfl, rfl, trivial⟩
      · replace hf := (if_neg (show ¬ (0 ≤ x7) from c9)).symm.trans hf
        refine w_iconst dX35_areNear_21 (v := 1) (by decide) ?_
        refine w_goto 26 dX35_areNear_22 (by decide) ?_
        exact (pX35_areNear_b26 hd ih hf).to ⟨rfl, rfl, rfl, trivial⟩
def fX35_areNear (N : Nat) (this : Nat) (h : eH) : Option (Int32 × eH) :=
  fX35_areNear_b4 N N this (1 : Int32) (0 : Int32) h
theorem pX35_areNear {w : eW} {d : Nat} (hd : 1 ≤ d) {N : Nat} {this : Nat} {h : eH} {q} (hf : fX35_areNear N this h = some q) : wm w d YX35_areNear [.ref this] h (e_is (e_rn c_I q)) := by
  obtain ⟨d, rfl⟩ : ∃ e, d = e + 1 := ⟨d - 1, by omega⟩
  show wp w (d + 1) YX35_areNear 0 [some (.ref this), none, none, none, none, none] [] h _
  unfold fX35_areNear at hf
  refine w_iconst dX35_areNear_0 (v := 1) (by decide) ?_
  refine w_istore_n dX35_areNear_1 rfl (by decide) (ls' := [some (.ref this), some (.int (1 : Int32)), none, none, none, none]) rfl ?_
  refine w_iconst dX35_areNear_2 (v := 0) (by decide) ?_
  refine w_istore_n dX35_areNear_3 rfl (by decide) (ls' := [some (.ref this), some (.int (1 : Int32)), some (.int (0 : Int32)), none, none, none]) rfl ?_
  exact (pX35_areNear_b4 hd N _ _ _ _ _ hf).to ⟨rfl, rfl, rfl, trivial⟩
abbrev cX35_now : ByteArray := prog_37_method_14_code
def yX35_now : MethodName := ⟨RX35, "now", "(I)I"⟩
def YX35_now : eY := (yX35_now, cX35_now, 2, (Option.some FieldType.int), [])
theorem mX35_now : e_mv YX35_now RX35 1 := ⟨q5099, qs241, q5100, by decide, by decide +kernel, (e_sig (by decide +kernel))⟩
theorem dX35_now_0 : decode cX35_now 0 = .ok (.aload_n 0, 1) := dc_42 (by decide +kernel)
theorem dX35_now_1 : decode cX35_now 1 = .ok (.getfield 65, 3) := dc_180 (a := 0) (b := 65) (n := 65) (by decide +kernel)
theorem dX35_now_4 : decode cX35_now 4 = .ok (.sipush 3812, 3) := dc_17 (a := 14) (b := 228) (v := 3812) (by decide +kernel)
theorem dX35_now_7 : decode cX35_now 7 = .ok (.aload_n 0, 1) := dc_42 (by decide +kernel)
theorem dX35_now_8 : decode cX35_now 8 = .ok (.getfield 323, 3) := dc_180 (a := 1) (b := 67) (n := 323) (by decide +kernel)
theorem dX35_now_11 : decode cX35_now 11 = .ok (.imul, 1) := dc_104 (by decide +kernel)
theorem dX35_now_12 : decode cX35_now 12 = .ok (.iload_n 1, 1) := dc_27 (by decide +kernel)
theorem dX35_now_13 : decode cX35_now 13 = .ok (.iadd, 1) := dc_96 (by decide +kernel)
theorem dX35_now_14 : decode cX35_now 14 = .ok (.iaload, 1) := dc_46 (by decide +kernel)
theorem dX35_now_15 : decode cX35_now 15 = .ok (.ireturn, 1) := dc_172 (by decide +kernel)
theorem GX35_323 {w : eW} {d : Nat} {Y : eY} {pc : Nat} {ls : eL} {st : List Value} {h : eH} {Q : eO → eH → Prop} {a : Nat} {x : Int32} (hf : g_I 34 h a 21 = some x) (hd : decode Y.2.1 pc = .ok (.getfield 323, 3)) (hY : Y.1.cls = RX35) (kk : wp w d Y (pc + 3) ls (.int x :: st) h Q) : wp w d Y pc ls (.ref a :: st) h Q := x_gI (ci := 34) (k := 21) hf hd rfl (by decide) (by rw [hY]; exact q4523) kk
def fX35_now (this : Nat) (p0 : Int32) (h : eH) : Option (Int32 × eH) :=
  (g_A 34 h this 22).bind fun a1 =>
  (g_I 34 h this 21).bind fun x3 =>
  (r_I 100 h a1 (((3812 : Int32) * x3) + p0)).bind fun x5 =>
  some (x5, h)
theorem pX35_now {w : eW} {d : Nat} (hd : 0 ≤ d) {this : Nat} {p0 : Int32} {h : eH} {q} (hf : fX35_now this p0 h = some q) : wm w d YX35_now [.ref this, .int p0] h (e_is (e_rn c_I q)) := by
  show wp w d YX35_now 0 [some (.ref this), some (.int p0)] [] h _
  unfold fX35_now at hf
  refine w_aload_n dX35_now_0 rfl rfl ?_
  obtain ⟨a1, b2, hf⟩ := Option.bind_eq_some_iff.mp hf
  refine GX35_65 b2 dX35_now_1 rfl ?_
  refine w_sipush dX35_now_4 (v := 3812) (by decide) ?_
  refine w_aload_n dX35_now_7 rfl rfl ?_
  obtain ⟨x3, b4, hf⟩ := Option.bind_eq_some_iff.mp hf
  refine GX35_323 b4 dX35_now_8 rfl ?_
  refine w_imul dX35_now_11 ?_
  refine w_iload_n dX35_now_12 rfl rfl ?_
  refine w_iadd dX35_now_13 ?_
  obtain ⟨x5, b6, hf⟩ := Option.bind_eq_some_iff.mp hf
  refine x_rI b6 dX35_now_14 ?_
  cases hf
  exact w_iret dX35_now_15 rfl rfl rfl
abbrev cX35_around : ByteArray := prog_37_method_125_code
def yX35_around : MethodName := ⟨RX35, "around", "(II)V"⟩
def YX35_around : eY := (yX35_around, cX35_around, 4, none, [])
theorem mX35_around : e_mv YX35_around RX35 2 := ⟨q5762, qs369, q5763, by decide, by decide +kernel, (e_sig (by decide +kernel))⟩
theorem dX35_around_0 : decode cX35_around 0 = .ok (.sipush 2247, 3) := dc_17 (a := 8) (b := 199) (v := 2247) (by decide +kernel)
theorem dX35_around_3 : decode cX35_around 3 = .ok (.iconst 4, 1) := dc_7 (by decide +kernel)
theorem dX35_around_4 : decode cX35_around 4 = .ok (.iload_n 2, 1) := dc_28 (by decide +kernel)
theorem dX35_around_5 : decode cX35_around 5 = .ok (.imul, 1) := dc_104 (by decide +kernel)
theorem dX35_around_6 : decode cX35_around 6 = .ok (.iadd, 1) := dc_96 (by decide +kernel)
theorem dX35_around_7 : decode cX35_around 7 = .ok (.istore_n 3, 1) := dc_62 (by decide +kernel)
theorem dX35_around_8 : decode cX35_around 8 = .ok (.aload_n 0, 1) := dc_42 (by decide +kernel)
theorem dX35_around_9 : decode cX35_around 9 = .ok (.getfield 35, 3) := dc_180 (a := 0) (b := 35) (n := 35) (by decide +kernel)
theorem dX35_around_12 : decode cX35_around 12 = .ok (.getfield 886, 3) := dc_180 (a := 3) (b := 118) (n := 886) (by decide +kernel)
theorem dX35_around_15 : decode cX35_around 15 = .ok (.iload_n 1, 1) := dc_27 (by decide +kernel)
theorem dX35_around_16 : decode cX35_around 16 = .ok (.aload_n 0, 1) := dc_42 (by decide +kernel)
theorem dX35_around_17 : decode cX35_around 17 = .ok (.iload_n 3, 1) := dc_29 (by decide +kernel)
theorem dX35_around_18 : decode cX35_around 18 = .ok (.invokevirtual 431, 3) := dc_182 (a := 1) (b := 175) (n := 431) (by decide +kernel)
theorem dX35_around_21 : decode cX35_around 21 = .ok (.iastore, 1) := dc_79 (by decide +kernel)
theorem dX35_around_22 : decode cX35_around 22 = .ok (.aload_n 0, 1) := dc_42 (by decide +kernel)
theorem dX35_around_23 : decode cX35_around 23 = .ok (.getfield 35, 3) := dc_180 (a := 0) (b := 35) (n := 35) (by decide +kernel)
theorem dX35_around_26 : decode cX35_around 26 = .ok (.getfield 889, 3) := dc_180 (a := 3) (b := 121) (n := 889) (by decide +kernel)
theorem dX35_around_29 : decode cX35_around 29 = .ok (.iload_n 1, 1) := dc_27 (by decide +kernel)
theorem dX35_around_30 : decode cX35_around 30 = .ok (.aload_n 0, 1) := dc_42 (by decide +kernel)
theorem dX35_around_31 : decode cX35_around 31 = .ok (.iload_n 3, 1) := dc_29 (by decide +kernel)
theorem dX35_around_32 : decode cX35_around 32 = .ok (.iconst 1, 1) := dc_4 (by decide +kernel)
theorem dX35_around_33 : decode cX35_around 33 = .ok (.iadd, 1) := dc_96 (by decide +kernel)
theorem dX35_around_34 : decode cX35_around 34 = .ok (.invokevirtual 431, 3) := dc_182 (a := 1) (b := 175) (n := 431) (by decide +kernel)
theorem dX35_around_37 : decode cX35_around 37 = .ok (.iastore, 1) := dc_79 (by decide +kernel)
theorem dX35_around_38 : decode cX35_around 38 = .ok (.aload_n 0, 1) := dc_42 (by decide +kernel)
theorem dX35_around_39 : decode cX35_around 39 = .ok (.getfield 35, 3) := dc_180 (a := 0) (b := 35) (n := 35) (by decide +kernel)
theorem dX35_around_42 : decode cX35_around 42 = .ok (.getfield 892, 3) := dc_180 (a := 3) (b := 124) (n := 892) (by decide +kernel)
theorem dX35_around_45 : decode cX35_around 45 = .ok (.iload_n 1, 1) := dc_27 (by decide +kernel)
theorem dX35_around_46 : decode cX35_around 46 = .ok (.aload_n 0, 1) := dc_42 (by decide +kernel)
theorem dX35_around_47 : decode cX35_around 47 = .ok (.iload_n 3, 1) := dc_29 (by decide +kernel)
theorem dX35_around_48 : decode cX35_around 48 = .ok (.iconst 2, 1) := dc_5 (by decide +kernel)
theorem dX35_around_49 : decode cX35_around 49 = .ok (.iadd, 1) := dc_96 (by decide +kernel)
theorem dX35_around_50 : decode cX35_around 50 = .ok (.invokevirtual 431, 3) := dc_182 (a := 1) (b := 175) (n := 431) (by decide +kernel)
theorem dX35_around_53 : decode cX35_around 53 = .ok (.iastore, 1) := dc_79 (by decide +kernel)
theorem dX35_around_54 : decode cX35_around 54 = .ok (.aload_n 0, 1) := dc_42 (by decide +kernel)
theorem dX35_around_55 : decode cX35_around 55 = .ok (.getfield 35, 3) := dc_180 (a := 0) (b := 35) (n := 35) (by decide +kernel)
theorem dX35_around_58 : decode cX35_around 58 = .ok (.getfield 895, 3) := dc_180 (a := 3) (b := 127) (n := 895) (by decide +kernel)
theorem dX35_around_61 : decode cX35_around 61 = .ok (.iload_n 1, 1) := dc_27 (by decide +kernel)
theorem dX35_around_62 : decode cX35_around 62 = .ok (.aload_n 0, 1) := dc_42 (by decide +kernel)
theorem dX35_around_63 : decode cX35_around 63 = .ok (.iload_n 3, 1) := dc_29 (by decide +kernel)
theorem dX35_around_64 : decode cX35_around 64 = .ok (.iconst 3, 1) := dc_6 (by decide +kernel)
theorem dX35_around_65 : decode cX35_around 65 = .ok (.iadd, 1) := dc_96 (by decide +kernel)
theorem dX35_around_66 : decode cX35_around 66 = .ok (.invokevirtual 431, 3) := dc_182 (a := 1) (b := 175) (n := 431) (by decide +kernel)
theorem dX35_around_69 : decode cX35_around 69 = .ok (.iastore, 1) := dc_79 (by decide +kernel)
theorem dX35_around_70 : decode cX35_around 70 = .ok (.return_, 1) := dc_177 (by decide +kernel)
theorem GX35_886 {w : eW} {d : Nat} {Y : eY} {pc : Nat} {ls : eL} {st : List Value} {h : eH} {Q : eO → eH → Prop} {a : Nat} {x : Nat} (hf : g_A 36 h a 12 = some x) (hd : decode Y.2.1 pc = .ok (.getfield 886, 3)) (hY : Y.1.cls = RX35) (kk : wp w d Y (pc + 3) ls (.ref x :: st) h Q) : wp w d Y pc ls (.ref a :: st) h Q := x_gAN (ci := 36) (k := 12) hf hd rfl (by decide) (by rw [hY]; exact q4243) kk
theorem GX35_889 {w : eW} {d : Nat} {Y : eY} {pc : Nat} {ls : eL} {st : List Value} {h : eH} {Q : eO → eH → Prop} {a : Nat} {x : Nat} (hf : g_A 36 h a 13 = some x) (hd : decode Y.2.1 pc = .ok (.getfield 889, 3)) (hY : Y.1.cls = RX35) (kk : wp w d Y (pc + 3) ls (.ref x :: st) h Q) : wp w d Y pc ls (.ref a :: st) h Q := x_gAN (ci := 36) (k := 13) hf hd rfl (by decide) (by rw [hY]; exact q4245) kk
theorem GX35_892 {w : eW} {d : Nat} {Y : eY} {pc : Nat} {ls : eL} {st : List Value} {h : eH} {Q : eO → eH → Prop} {a : Nat} {x : Nat} (hf : g_A 36 h a 14 = some x) (hd : decode Y.2.1 pc = .ok (.getfield 892, 3)) (hY : Y.1.cls = RX35) (kk : wp w d Y (pc + 3) ls (.ref x :: st) h Q) : wp w d Y pc ls (.ref a :: st) h Q := x_gAN (ci := 36) (k := 14) hf hd rfl (by decide) (by rw [hY]; exact q4247) kk
theorem GX35_895 {w : eW} {d : Nat} {Y : eY} {pc : Nat} {ls : eL} {st : List Value} {h : eH} {Q : eO → eH → Prop} {a : Nat} {x : Nat} (hf : g_A 36 h a 15 = some x) (hd : decode Y.2.1 pc = .ok (.getfield 895, 3)) (hY : Y.1.cls = RX35) (kk : wp w d Y (pc + 3) ls (.ref x :: st) h Q) : wp w d Y pc ls (.ref a :: st) h Q := x_gAN (ci := 36) (k := 15) hf hd rfl (by decide) (by rw [hY]; exact q4249) kk
def fX35_around (this : Nat) (p0 : Int32) (p1 : Int32) (h : eH) : Option (Unit × eH) :=
  (g_A 34 h this 6).bind fun a1 =>
  (g_A 36 h a1 12).bind fun a3 =>
  (k_ok 34 h this).bind fun _ =>
  (fX35_now this ((2247 : Int32) + ((4 : Int32) * p1)) h).bind fun q6 =>
  (q_V 100 q6.2 a3 p0 (.int q6.1)).bind fun h7 =>
  (g_A 34 h7 this 6).bind fun a9 =>
  (g_A 36 h7 a9 13).bind fun a11 =>
  (k_ok 34 h7 this).bind fun _ =>
  (fX35_now this (((2247 : Int32) + ((4 : Int32) * p1)) + (1 : Int32)) h7).bind fun q14 =>
  (q_V 100 q14.2 a11 p0 (.int q14.1)).bind fun h15 =>
  (g_A 34 h15 this 6).bind fun a17 =>
  (g_A 36 h15 a17 14).bind fun a19 =>
  (k_ok 34 h15 this).bind fun _ =>
  (fX35_now this (((2247 : Int32) + ((4 : Int32) * p1)) + (2 : Int32)) h15).bind fun q22 =>
  (q_V 100 q22.2 a19 p0 (.int q22.1)).bind fun h23 =>
  (g_A 34 h23 this 6).bind fun a25 =>
  (g_A 36 h23 a25 15).bind fun a27 =>
  (k_ok 34 h23 this).bind fun _ =>
  (fX35_now this (((2247 : Int32) + ((4 : Int32) * p1)) + (3 : Int32)) h23).bind fun q30 =>
  (q_V 100 q30.2 a27 p0 (.int q30.1)).bind fun h31 =>
  some ((), h31)
theorem pX35_around {w : eW} {d : Nat} (hd : 1 ≤ d) {this : Nat} {p0 : Int32} {p1 : Int32} {h : eH} {q} (hf : fX35_around this p0 p1 h = some q) : wm w d YX35_around [.ref this, .int p0, .int p1] h (e_is (e_rn c_V q)) := by
  obtain ⟨d, rfl⟩ : ∃ e, d = e + 1 := ⟨d - 1, by omega⟩
  show wp w (d + 1) YX35_around 0 [some (.ref this), some (.int p0), some (.int p1), none] [] h _
  unfold fX35_around at hf
  refine w_sipush dX35_around_0 (v := 2247) (by decide) ?_
  refine w_iconst dX35_around_3 (v := 4) (by decide) ?_
  refine w_iload_n dX35_around_4 rfl rfl ?_
  refine w_imul dX35_around_5 ?_
  refine w_iadd dX35_around_6 ?_
  refine w_istore_n dX35_around_7 rfl (by decide) (ls' := [some (.ref this), some (.int p0), some (.int p1), some (.int ((2247 : Int32) + ((4 : Int32) * p1)))]) rfl ?_
  refine w_aload_n dX35_around_8 rfl rfl ?_
  obtain ⟨a1, b2, hf⟩ := Option.bind_eq_some_iff.mp hf
  refine GX35_35 b2 dX35_around_9 rfl ?_
  obtain ⟨a3, b4, hf⟩ := Option.bind_eq_some_iff.mp hf
  refine GX35_886 b4 dX35_around_12 rfl ?_
  refine w_iload_n dX35_around_15 rfl rfl ?_
  refine w_aload_n dX35_around_16 rfl rfl ?_
  refine w_iload_n dX35_around_17 rfl rfl ?_
  obtain ⟨_, b5, hf⟩ := Option.bind_eq_some_iff.mp hf
  refine x_cnI hf (e_stV (Yc := YX35_now) (ci := 34) (av := [.int ((2247 : Int32) + ((4 : Int32) * p1))]) (st := [.int p0, .ref a3]) dX35_around_18 q5097 mX35_now rfl (k_ok_some b5).1 (k_ok_some b5).2) mX35_now.2.2.1 mX35_now.2.2.2.2.1 (Nat.le_of_ble_eq_true rfl) (Nat.le_of_ble_eq_true rfl) (fun q hq => pX35_now (by omega) hq) (fun q6 hf => ?_)
  obtain ⟨h7, b8, hf⟩ := Option.bind_eq_some_iff.mp hf
  refine x_qI b8 dX35_around_21 ?_
  refine w_aload_n dX35_around_22 rfl rfl ?_
  obtain ⟨a9, b10, hf⟩ := Option.bind_eq_some_iff.mp hf
  refine GX35_35 b10 dX35_around_23 rfl ?_
  obtain ⟨a11, b12, hf⟩ := Option.bind_eq_some_iff.mp hf
  refine GX35_889 b12 dX35_around_26 rfl ?_
  refine w_iload_n dX35_around_29 rfl rfl ?_
  refine w_aload_n dX35_around_30 rfl rfl ?_
  refine w_iload_n dX35_around_31 rfl rfl ?_
  refine w_iconst dX35_around_32 (v := 1) (by decide) ?_
  refine w_iadd dX35_around_33 ?_
  obtain ⟨_, b13, hf⟩ := Option.bind_eq_some_iff.mp hf
  refine x_cnI hf (e_stV (Yc := YX35_now) (ci := 34) (av := [.int (((2247 : Int32) + ((4 : Int32) * p1)) + (1 : Int32))]) (st := [.int p0, .ref a11]) dX35_around_34 q5097 mX35_now rfl (k_ok_some b13).1 (k_ok_some b13).2) mX35_now.2.2.1 mX35_now.2.2.2.2.1 (Nat.le_of_ble_eq_true rfl) (Nat.le_of_ble_eq_true rfl) (fun q hq => pX35_now (by omega) hq) (fun q14 hf => ?_)
  obtain ⟨h15, b16, hf⟩ := Option.bind_eq_some_iff.mp hf
  refine x_qI b16 dX35_around_37 ?_
  refine w_aload_n dX35_around_38 rfl rfl ?_
  obtain ⟨a17, b18, hf⟩ := Option.bind_eq_some_iff.mp hf
  refine GX35_35 b18 dX35_around_39 rfl ?_
  obtain ⟨a19, b20, hf⟩ := Option.bind_eq_some_iff.mp hf
  refine GX35_892 b20 dX35_around_42 rfl ?_
  refine w_iload_n dX35_around_45 rfl rfl ?_
  refine w_aload_n dX35_around_46 rfl rfl ?_
  refine w_iload_n dX35_around_47 rfl rfl ?_
  refine w_iconst dX35_around_48 (v := 2) (by decide) ?_
  refine w_iadd dX35_around_49 ?_
  obtain ⟨_, b21, hf⟩ := Option.bind_eq_some_iff.mp hf
  refine x_cnI hf (e_stV (Yc := YX35_now) (ci := 34) (av := [.int (((2247 : Int32) + ((4 : Int32) * p1)) + (2 : Int32))]) (st := [.int p0, .ref a19]) dX35_around_50 q5097 mX35_now rfl (k_ok_some b21).1 (k_ok_some b21).2) mX35_now.2.2.1 mX35_now.2.2.2.2.1 (Nat.le_of_ble_eq_true rfl) (Nat.le_of_ble_eq_true rfl) (fun q hq => pX35_now (by omega) hq) (fun q22 hf => ?_)
  obtain ⟨h23, b24, hf⟩ := Option.bind_eq_some_iff.mp hf
  refine x_qI b24 dX35_around_53 ?_
  refine w_aload_n dX35_around_54 rfl rfl ?_
  obtain ⟨a25, b26, hf⟩ := Option.bind_eq_some_iff.mp hf
  refine GX35_35 b26 dX35_around_55 rfl ?_
  obtain ⟨a27, b28, hf⟩ := Option.bind_eq_some_iff.mp hf
  refine GX35_895 b28 dX35_around_58 rfl ?_
  refine w_iload_n dX35_around_61 rfl rfl ?_
  refine w_aload_n dX35_around_62 rfl rfl ?_
  refine w_iload_n dX35_around_63 rfl rfl ?_
  refine w_iconst dX35_around_64 (v := 3) (by decide) ?_
  refine w_iadd dX35_around_65 ?_
  obtain ⟨_, b29, hf⟩ := Option.bind_eq_some_iff.mp hf
  refine x_cnI hf (e_stV (Yc := YX35_now) (ci := 34) (av := [.int (((2247 : Int32) + ((4 : Int32) * p1)) + (3 : Int32))]) (st := [.int p0, .ref a27]) dX35_around_66 q5097 mX35_now rfl (k_ok_some b29).1 (k_ok_some b29).2) mX35_now.2.2.1 mX35_now.2.2.2.2.1 (Nat.le_of_ble_eq_true rfl) (Nat.le_of_ble_eq_true rfl) (fun q hq => pX35_now (by omega) hq) (fun q30 hf => ?_)
  obtain ⟨h31, b32, hf⟩ := Option.bind_eq_some_iff.mp hf
  refine x_qI b32 dX35_around_69 ?_
  cases hf
  exact w_vret dX35_around_70 rfl rfl
abbrev cX35_fail : ByteArray := prog_37_method_12_code
def yX35_fail : MethodName := ⟨RX35, "fail", "(I)V"⟩
def YX35_fail : eY := (yX35_fail, cX35_fail, 2, none, [])
theorem mX35_fail : e_mv YX35_fail RX35 1 := ⟨q5111, qs244, q5112, by decide, by decide +kernel, (e_sig (by decide +kernel))⟩
theorem dX35_fail_0 : decode cX35_fail 0 = .ok (.aload_n 0, 1) := dc_42 (by decide +kernel)
theorem dX35_fail_1 : decode cX35_fail 1 = .ok (.aload_n 0, 1) := dc_42 (by decide +kernel)
theorem dX35_fail_2 : decode cX35_fail 2 = .ok (.getfield 321, 3) := dc_180 (a := 1) (b := 65) (n := 321) (by decide +kernel)
theorem dX35_fail_5 : decode cX35_fail 5 = .ok (.ifCond .ne 7, 3) := dc_154 (a := 0) (b := 7) (v := 7) (by decide +kernel)
theorem dX35_fail_8 : decode cX35_fail 8 = .ok (.iload_n 1, 1) := dc_27 (by decide +kernel)
theorem dX35_fail_9 : decode cX35_fail 9 = .ok (.goto 7, 3) := dc_167 (a := 0) (b := 7) (v := 7) (by decide +kernel)
theorem dX35_fail_12 : decode cX35_fail 12 = .ok (.aload_n 0, 1) := dc_42 (by decide +kernel)
theorem dX35_fail_13 : decode cX35_fail 13 = .ok (.getfield 321, 3) := dc_180 (a := 1) (b := 65) (n := 321) (by decide +kernel)
theorem dX35_fail_16 : decode cX35_fail 16 = .ok (.putfield 321, 3) := dc_181 (a := 1) (b := 65) (n := 321) (by decide +kernel)
theorem dX35_fail_19 : decode cX35_fail 19 = .ok (.return_, 1) := dc_177 (by decide +kernel)
theorem GX35_321 {w : eW} {d : Nat} {Y : eY} {pc : Nat} {ls : eL} {st : List Value} {h : eH} {Q : eO → eH → Prop} {a : Nat} {x : Int32} (hf : g_I 34 h a 46 = some x) (hd : decode Y.2.1 pc = .ok (.getfield 321, 3)) (hY : Y.1.cls = RX35) (kk : wp w d Y (pc + 3) ls (.int x :: st) h Q) : wp w d Y pc ls (.ref a :: st) h Q := x_gI (ci := 34) (k := 46) hf hd rfl (by decide) (by rw [hY]; exact q4548) kk
def fX35_fail_b16 (s0 : Nat) (s1 : Int32) (h : eH) : Option (Unit × eH) :=
  (p_V 34 h s0 46 (.int s1)).bind fun h1 =>
  some ((), h1)
theorem pX35_fail_b16 {w : eW} {d : Nat} (hd : 0 ≤ d) {s0 : Nat} {s1 : Int32} {h : eH} {q} (hf : fX35_fail_b16 s0 s1 h = some q) : wp w d YX35_fail 16 [none, none] [.int s1, .ref s0] h (e_is (e_rn c_V q)) := by
  unfold fX35_fail_b16 at hf
  obtain ⟨h1, b2, hf⟩ := Option.bind_eq_some_iff.mp hf
  refine SX35_321 b2 dX35_fail_16 rfl ?_
  cases hf
  exact w_vret dX35_fail_19 rfl rfl
def fX35_fail (this : Nat) (p0 : Int32) (h : eH) : Option (Unit × eH) :=
  (g_I 34 h this 46).bind fun x1 =>
  if ¬ x1 = 0 then
    (g_I 34 h this 46).bind fun x4 =>
    fX35_fail_b16 this x4 h
  else
    fX35_fail_b16 this p0 h
theorem pX35_fail {w : eW} {d : Nat} (hd : 0 ≤ d) {this : Nat} {p0 : Int32} {h : eH} {q} (hf : fX35_fail this p0 h = some q) : wm w d YX35_fail [.ref this, .int p0] h (e_is (e_rn c_V q)) := by
  show wp w d YX35_fail 0 [some (.ref this), some (.int p0)] [] h _
  unfold fX35_fail at hf
  refine w_aload_n dX35_fail_0 rfl rfl ?_
  refine w_aload_n dX35_fail_1 rfl rfl ?_
  obtain ⟨x1, b2, hf⟩ := Option.bind_eq_some_iff.mp hf
  refine GX35_321 b2 dX35_fail_2 rfl ?_
  refine w_if_ne 12 dX35_fail_5 (by decide) (fun c3 => ?_) (fun c3 => ?_)
  · replace hf := (if_pos (show ¬ x1 = 0 from c3)).symm.trans hf
    refine w_aload_n dX35_fail_12 rfl rfl ?_
    obtain ⟨x4, b5, hf⟩ := Option.bind_eq_some_iff.mp hf
    refine GX35_321 b5 dX35_fail_13 rfl ?_
    exact (pX35_fail_b16 hd hf).to trivial
  · replace hf := (if_neg (show ¬ (¬ x1 = 0) from (fun z => z c3))).symm.trans hf
    refine w_iload_n dX35_fail_8 rfl rfl ?_
    refine w_goto 16 dX35_fail_9 (by decide) ?_
    exact (pX35_fail_b16 hd hf).to trivial
abbrev cX35_number : ByteArray := prog_37_method_83_code
def yX35_number : MethodName := ⟨RX35, "number", "()I"⟩
def YX35_number : eY := (yX35_number, cX35_number, 2, (Option.some FieldType.int), [])
theorem mX35_number : e_mv YX35_number RX35 0 := ⟨q5219, qs267, q5220, by decide, by decide +kernel, (e_sig (by decide +kernel))⟩
theorem dX35_number_0 : decode cX35_number 0 = .ok (.aload_n 0, 1) := dc_42 (by decide +kernel)
theorem dX35_number_1 : decode cX35_number 1 = .ok (.getfield 353, 3) := dc_180 (a := 1) (b := 97) (n := 353) (by decide +kernel)
theorem dX35_number_4 : decode cX35_number 4 = .ok (.bipush 40, 2) := dc_16 (a := 40) (v := 40) (by decide +kernel)
theorem dX35_number_6 : decode cX35_number 6 = .ok (.if_icmp .ne 8, 3) := dc_160 (a := 0) (b := 8) (v := 8) (by decide +kernel)
theorem dX35_number_9 : decode cX35_number 9 = .ok (.aload_n 0, 1) := dc_42 (by decide +kernel)
theorem dX35_number_10 : decode cX35_number 10 = .ok (.iconst 3, 1) := dc_6 (by decide +kernel)
theorem dX35_number_11 : decode cX35_number 11 = .ok (.invokevirtual 428, 3) := dc_182 (a := 1) (b := 172) (n := 428) (by decide +kernel)
theorem dX35_number_14 : decode cX35_number 14 = .ok (.aload_n 0, 1) := dc_42 (by decide +kernel)
theorem dX35_number_15 : decode cX35_number 15 = .ok (.getfield 321, 3) := dc_180 (a := 1) (b := 65) (n := 321) (by decide +kernel)
theorem dX35_number_18 : decode cX35_number 18 = .ok (.ifCond .le 5, 3) := dc_158 (a := 0) (b := 5) (v := 5) (by decide +kernel)
theorem dX35_number_21 : decode cX35_number 21 = .ok (.iconst 0, 1) := dc_3 (by decide +kernel)
theorem dX35_number_22 : decode cX35_number 22 = .ok (.ireturn, 1) := dc_172 (by decide +kernel)
theorem dX35_number_23 : decode cX35_number 23 = .ok (.aload_n 0, 1) := dc_42 (by decide +kernel)
theorem dX35_number_24 : decode cX35_number 24 = .ok (.dup, 1) := dc_89 (by decide +kernel)
theorem dX35_number_25 : decode cX35_number 25 = .ok (.getfield 353, 3) := dc_180 (a := 1) (b := 97) (n := 353) (by decide +kernel)
theorem dX35_number_28 : decode cX35_number 28 = .ok (.iconst 1, 1) := dc_4 (by decide +kernel)
theorem dX35_number_29 : decode cX35_number 29 = .ok (.iadd, 1) := dc_96 (by decide +kernel)
theorem dX35_number_30 : decode cX35_number 30 = .ok (.putfield 353, 3) := dc_181 (a := 1) (b := 97) (n := 353) (by decide +kernel)
theorem dX35_number_33 : decode cX35_number 33 = .ok (.aload_n 0, 1) := dc_42 (by decide +kernel)
theorem dX35_number_34 : decode cX35_number 34 = .ok (.invokevirtual 657, 3) := dc_182 (a := 2) (b := 145) (n := 657) (by decide +kernel)
theorem dX35_number_37 : decode cX35_number 37 = .ok (.istore_n 1, 1) := dc_60 (by decide +kernel)
theorem dX35_number_38 : decode cX35_number 38 = .ok (.aload_n 0, 1) := dc_42 (by decide +kernel)
theorem dX35_number_39 : decode cX35_number 39 = .ok (.dup, 1) := dc_89 (by decide +kernel)
theorem dX35_number_40 : decode cX35_number 40 = .ok (.getfield 353, 3) := dc_180 (a := 1) (b := 97) (n := 353) (by decide +kernel)
theorem dX35_number_43 : decode cX35_number 43 = .ok (.iconst 1, 1) := dc_4 (by decide +kernel)
theorem dX35_number_44 : decode cX35_number 44 = .ok (.isub, 1) := dc_100 (by decide +kernel)
theorem dX35_number_45 : decode cX35_number 45 = .ok (.putfield 353, 3) := dc_181 (a := 1) (b := 97) (n := 353) (by decide +kernel)
theorem dX35_number_48 : decode cX35_number 48 = .ok (.iload_n 1, 1) := dc_27 (by decide +kernel)
theorem dX35_number_49 : decode cX35_number 49 = .ok (.ireturn, 1) := dc_172 (by decide +kernel)
abbrev cX35_small : ByteArray := prog_37_method_74_code
def yX35_small : MethodName := ⟨RX35, "small", "(I)I"⟩
def YX35_small : eY := (yX35_small, cX35_small, 3, (Option.some FieldType.int), [])
theorem mX35_small : e_mv YX35_small RX35 1 := ⟨q5273, qs277, q5274, by decide, by decide +kernel, (e_sig (by decide +kernel))⟩
theorem dX35_small_0 : decode cX35_small 0 = .ok (.aload_n 0, 1) := dc_42 (by decide +kernel)
theorem dX35_small_1 : decode cX35_small 1 = .ok (.invokevirtual 518, 3) := dc_182 (a := 2) (b := 6) (n := 518) (by decide +kernel)
theorem dX35_small_4 : decode cX35_small 4 = .ok (.istore_n 2, 1) := dc_61 (by decide +kernel)
theorem dX35_small_5 : decode cX35_small 5 = .ok (.aload_n 0, 1) := dc_42 (by decide +kernel)
theorem dX35_small_6 : decode cX35_small 6 = .ok (.getfield 321, 3) := dc_180 (a := 1) (b := 65) (n := 321) (by decide +kernel)
theorem dX35_small_9 : decode cX35_small 9 = .ok (.ifCond .ne 18, 3) := dc_154 (a := 0) (b := 18) (v := 18) (by decide +kernel)
theorem dX35_small_12 : decode cX35_small 12 = .ok (.iload_n 2, 1) := dc_28 (by decide +kernel)
theorem dX35_small_13 : decode cX35_small 13 = .ok (.ifCond .lt 8, 3) := dc_155 (a := 0) (b := 8) (v := 8) (by decide +kernel)
theorem dX35_small_16 : decode cX35_small 16 = .ok (.iload_n 2, 1) := dc_28 (by decide +kernel)
theorem dX35_small_17 : decode cX35_small 17 = .ok (.iload_n 1, 1) := dc_27 (by decide +kernel)
theorem dX35_small_18 : decode cX35_small 18 = .ok (.if_icmp .le 9, 3) := dc_164 (a := 0) (b := 9) (v := 9) (by decide +kernel)
theorem dX35_small_21 : decode cX35_small 21 = .ok (.aload_n 0, 1) := dc_42 (by decide +kernel)
theorem dX35_small_22 : decode cX35_small 22 = .ok (.bipush 7, 2) := dc_16 (a := 7) (v := 7) (by decide +kernel)
theorem dX35_small_24 : decode cX35_small 24 = .ok (.invokevirtual 428, 3) := dc_182 (a := 1) (b := 172) (n := 428) (by decide +kernel)
theorem dX35_small_27 : decode cX35_small 27 = .ok (.aload_n 0, 1) := dc_42 (by decide +kernel)
theorem dX35_small_28 : decode cX35_small 28 = .ok (.getfield 321, 3) := dc_180 (a := 1) (b := 65) (n := 321) (by decide +kernel)
theorem dX35_small_31 : decode cX35_small 31 = .ok (.ifCond .le 7, 3) := dc_158 (a := 0) (b := 7) (v := 7) (by decide +kernel)
theorem dX35_small_34 : decode cX35_small 34 = .ok (.iconst 0, 1) := dc_3 (by decide +kernel)
theorem dX35_small_35 : decode cX35_small 35 = .ok (.goto 4, 3) := dc_167 (a := 0) (b := 4) (v := 4) (by decide +kernel)
theorem dX35_small_38 : decode cX35_small 38 = .ok (.iload_n 2, 1) := dc_28 (by decide +kernel)
theorem dX35_small_39 : decode cX35_small 39 = .ok (.ireturn, 1) := dc_172 (by decide +kernel)
def fX35_small_b39 (sN : Nat → eH → Option (Int32 × eH)) (s0 : Int32) (h : eH) : Option (Int32 × eH) :=
  some (s0, h)
theorem pX35_small_b39 {w : eW} {d : Nat} {dr : Nat} (hd : dr + 1 ≤ d + 1) (hdr : 12 ≤ dr) {sN : Nat → eH → Option (Int32 × eH)} (hsN : ∀ a h q, sN a h = some q → wm w dr YX35_number [.ref a] h (e_is (e_rn c_I q))) {s0 : Int32} {h : eH} {q} (hf : fX35_small_b39 sN s0 h = some q) : wp w (d + 1) YX35_small 39 [none, none, none] [.int s0] h (e_is (e_rn c_I q)) := by
  unfold fX35_small_b39 at hf
  cases hf
  exact w_iret dX35_small_39 rfl rfl rfl
def fX35_small_b27 (sN : Nat → eH → Option (Int32 × eH)) (l0 : Nat) (l2 : Int32) (h : eH) : Option (Int32 × eH) :=
  (g_I 34 h l0 46).bind fun x1 =>
  if x1 ≤ 0 then
    fX35_small_b39 sN l2 h
  else
    fX35_small_b39 sN (0 : Int32) h
theorem pX35_small_b27 {w : eW} {d : Nat} {dr : Nat} (hd : dr + 1 ≤ d + 1) (hdr : 12 ≤ dr) {sN : Nat → eH → Option (Int32 × eH)} (hsN : ∀ a h q, sN a h = some q → wm w dr YX35_number [.ref a] h (e_is (e_rn c_I q))) {l0 : Nat} {l2 : Int32} {h : eH} {q} (hf : fX35_small_b27 sN l0 l2 h = some q) : wp w (d + 1) YX35_small 27 [some (.ref l0), none, some (.int l2)] [] h (e_is (e_rn c_I q)) := by
  unfold fX35_small_b27 at hf
  refine w_aload_n dX35_small_27 rfl rfl ?_
  obtain ⟨x1, b2, hf⟩ := Option.bind_eq_some_iff.mp hf
  refine GX35_321 b2 dX35_small_28 rfl ?_
  refine w_if_le 38 dX35_small_31 (by decide) (fun c3 => ?_) (fun c3 => ?_)
  · replace hf := (if_pos (show x1 ≤ 0 from c3)).symm.trans hf
    refine w_iload_n dX35_small_38 rfl rfl ?_
    exact (pX35_small_b39 hd hdr hsN hf).to trivial
  · replace hf := (if_neg (show ¬ (x1 ≤ 0) from c3)).symm.trans hf
    refine w_iconst dX35_small_34 (v := 0) (by decide) ?_
    refine w_goto 39 dX35_small_35 (by decide) ?_
    exact (pX35_small_b39 hd hdr hsN hf).to trivial
def fX35_small_b21 (sN : Nat → eH → Option (Int32 × eH)) (l0 : Nat) (l2 : Int32) (h : eH) : Option (Int32 × eH) :=
  (k_ok 34 h l0).bind fun _ =>
  (fX35_fail l0 (7 : Int32) h).bind fun q2 =>
  fX35_small_b27 sN l0 l2 q2.2
theorem pX35_small_b21 {w : eW} {d : Nat} {dr : Nat} (hd : dr + 1 ≤ d + 1) (hdr : 12 ≤ dr) {sN : Nat → eH → Option (Int32 × eH)} (hsN : ∀ a h q, sN a h = some q → wm w dr YX35_number [.ref a] h (e_is (e_rn c_I q))) {l0 : Nat} {l2 : Int32} {h : eH} {q} (hf : fX35_small_b21 sN l0 l2 h = some q) : wp w (d + 1) YX35_small 21 [some (.ref l0), none, some (.int l2)] [] h (e_is (e_rn c_I q)) := by
  unfold fX35_small_b21 at hf
  refine w_aload_n dX35_small_21 rfl rfl ?_
  refine w_bipush dX35_small_22 (v := 7) (by decide) ?_
  obtain ⟨_, b1, hf⟩ := Option.bind_eq_some_iff.mp hf
  refine x_cnV hf (e_stV (Yc := YX35_fail) (ci := 34) (av := [.int (7 : Int32)]) (st := []) dX35_small_24 q5109 mX35_fail rfl (k_ok_some b1).1 (k_ok_some b1).2) mX35_fail.2.2.1 mX35_fail.2.2.2.2.1 (Nat.le_of_ble_eq_true rfl) (Nat.le_of_ble_eq_true rfl) (fun q hq => pX35_fail (by omega) hq) (fun q2 hf => ?_)
  exact (pX35_small_b27 hd hdr hsN hf).to ⟨rfl, rfl, trivial⟩
def fX35_small (sN : Nat → eH → Option (Int32 × eH)) (this : Nat) (p0 : Int32) (h : eH) : Option (Int32 × eH) :=
  (k_ok 34 h this).bind fun _ =>
  (sN this h).bind fun q2 =>
  (g_I 34 q2.2 this 46).bind fun x3 =>
  if ¬ x3 = 0 then
    fX35_small_b27 sN this q2.1 q2.2
  else
    if q2.1 < 0 then
      fX35_small_b21 sN this q2.1 q2.2
    else
      if q2.1 ≤ p0 then
        fX35_small_b27 sN this q2.1 q2.2
      else
        fX35_small_b21 sN this q2.1 q2.2
theorem pX35_small {w : eW} {d : Nat} {dr : Nat} (hd : dr + 1 ≤ d) (hdr : 12 ≤ dr) {sN : Nat → eH → Option (Int32 × eH)} (hsN : ∀ a h q, sN a h = some q → wm w dr YX35_number [.ref a] h (e_is (e_rn c_I q))) {this : Nat} {p0 : Int32} {h : eH} {q} (hf : fX35_small sN this p0 h = some q) : wm w d YX35_small [.ref this, .int p0] h (e_is (e_rn c_I q)) := by
  obtain ⟨d, rfl⟩ : ∃ e, d = e + 1 := ⟨d - 1, by omega⟩
  show wp w (d + 1) YX35_small 0 [some (.ref this), some (.int p0), none] [] h _
  unfold fX35_small at hf
  refine w_aload_n dX35_small_0 rfl rfl ?_
  obtain ⟨_, b1, hf⟩ := Option.bind_eq_some_iff.mp hf
  refine x_cnI hf (e_stV (Yc := YX35_number) (ci := 34) (av := []) (st := []) dX35_small_1 q5217 mX35_number rfl (k_ok_some b1).1 (k_ok_some b1).2) mX35_number.2.2.1 mX35_number.2.2.2.2.1 (Nat.le_of_ble_eq_true rfl) (Nat.le_of_ble_eq_true rfl) (fun q hq => (hsN _ _ _ hq).up (by omega)) (fun q2 hf => ?_)
  refine w_istore_n dX35_small_4 rfl (by decide) (ls' := [some (.ref this), some (.int p0), some (.int q2.1)]) rfl ?_
  refine w_aload_n dX35_small_5 rfl rfl ?_
  obtain ⟨x3, b4, hf⟩ := Option.bind_eq_some_iff.mp hf
  refine GX35_321 b4 dX35_small_6 rfl ?_
  refine w_if_ne 27 dX35_small_9 (by decide) (fun c5 => ?_) (fun c5 => ?_)
  · replace hf := (if_pos (show ¬ x3 = 0 from c5)).symm.trans hf
    exact (pX35_small_b27 hd hdr hsN hf).to ⟨rfl, rfl, trivial⟩
  · replace hf := (if_neg (show ¬ (¬ x3 = 0) from (fun z => z c5))).symm.trans hf
    refine w_iload_n dX35_small_12 rfl rfl ?_
    refine w_if_lt 21 dX35_small_13 (by decide) (fun c6 => ?_) (fun c6 => ?_)
    · replace hf := (if_pos (show q2.1 < 0 from c6)).symm.trans hf
      exact (pX35_small_b21 hd hdr hsN hf).to ⟨rfl, rfl, trivial⟩
    · replace hf := (if_neg (show ¬ (q2.1 < 0) from c6)).symm.trans hf
      refine w_iload_n dX35_small_16 rfl rfl ?_
      refine w_iload_n dX35_small_17 rfl rfl ?_
      refine w_icmp_le 27 dX35_small_18 (by decide) (fun c7 => ?_) (fun c7 => ?_)
      · replace hf := (if_pos (show q2.1 ≤ p0 from c7)).symm.trans hf
        exact (pX35_small_b27 hd hdr hsN hf).to ⟨rfl, rfl, trivial⟩
      · replace hf := (if_neg (show ¬ (q2.1 ≤ p0) from c7)).symm.trans hf
        exact (pX35_small_b21 hd hdr hsN hf).to ⟨rfl, rfl, trivial⟩
abbrev cX35_at : ByteArray := prog_37_method_75_code
def yX35_at : MethodName := ⟨RX35, "at", "(I)I"⟩
def YX35_at : eY := (yX35_at, cX35_at, 2, (Option.some FieldType.int), [])
theorem mX35_at : e_mv YX35_at RX35 1 := ⟨q5277, qs278, q5278, by decide, by decide +kernel, (e_sig (by decide +kernel))⟩
theorem dX35_at_0 : decode cX35_at 0 = .ok (.iload_n 1, 1) := dc_27 (by decide +kernel)
theorem dX35_at_1 : decode cX35_at 1 = .ok (.bipush 41, 2) := dc_16 (a := 41) (v := 41) (by decide +kernel)
theorem dX35_at_3 : decode cX35_at 3 = .ok (.if_icmp .ne 15, 3) := dc_160 (a := 0) (b := 15) (v := 15) (by decide +kernel)
theorem dX35_at_6 : decode cX35_at 6 = .ok (.sipush 1716, 3) := dc_17 (a := 6) (b := 180) (v := 1716) (by decide +kernel)
theorem dX35_at_9 : decode cX35_at 9 = .ok (.aload_n 0, 1) := dc_42 (by decide +kernel)
theorem dX35_at_10 : decode cX35_at 10 = .ok (.sipush 255, 3) := dc_17 (a := 0) (b := 255) (v := 255) (by decide +kernel)
theorem dX35_at_13 : decode cX35_at 13 = .ok (.invokevirtual 590, 3) := dc_182 (a := 2) (b := 78) (n := 590) (by decide +kernel)
theorem dX35_at_16 : decode cX35_at 16 = .ok (.iadd, 1) := dc_96 (by decide +kernel)
theorem dX35_at_17 : decode cX35_at 17 = .ok (.ireturn, 1) := dc_172 (by decide +kernel)
theorem dX35_at_18 : decode cX35_at 18 = .ok (.iload_n 1, 1) := dc_27 (by decide +kernel)
theorem dX35_at_19 : decode cX35_at 19 = .ok (.bipush 42, 2) := dc_16 (a := 42) (v := 42) (by decide +kernel)
theorem dX35_at_21 : decode cX35_at 21 = .ok (.if_icmp .ne 15, 3) := dc_160 (a := 0) (b := 15) (v := 15) (by decide +kernel)
theorem dX35_at_24 : decode cX35_at 24 = .ok (.sipush 1985, 3) := dc_17 (a := 7) (b := 193) (v := 1985) (by decide +kernel)
theorem dX35_at_27 : decode cX35_at 27 = .ok (.aload_n 0, 1) := dc_42 (by decide +kernel)
theorem dX35_at_28 : decode cX35_at 28 = .ok (.sipush 255, 3) := dc_17 (a := 0) (b := 255) (v := 255) (by decide +kernel)
theorem dX35_at_31 : decode cX35_at 31 = .ok (.invokevirtual 590, 3) := dc_182 (a := 2) (b := 78) (n := 590) (by decide +kernel)
theorem dX35_at_34 : decode cX35_at 34 = .ok (.iadd, 1) := dc_96 (by decide +kernel)
theorem dX35_at_35 : decode cX35_at 35 = .ok (.ireturn, 1) := dc_172 (by decide +kernel)
theorem dX35_at_36 : decode cX35_at 36 = .ok (.iload_n 1, 1) := dc_27 (by decide +kernel)
theorem dX35_at_37 : decode cX35_at 37 = .ok (.bipush 43, 2) := dc_16 (a := 43) (v := 43) (by decide +kernel)
theorem dX35_at_39 : decode cX35_at 39 = .ok (.if_icmp .ne 17, 3) := dc_160 (a := 0) (b := 17) (v := 17) (by decide +kernel)
theorem dX35_at_42 : decode cX35_at 42 = .ok (.sipush 2247, 3) := dc_17 (a := 8) (b := 199) (v := 2247) (by decide +kernel)
theorem dX35_at_45 : decode cX35_at 45 = .ok (.iconst 4, 1) := dc_7 (by decide +kernel)
theorem dX35_at_46 : decode cX35_at 46 = .ok (.aload_n 0, 1) := dc_42 (by decide +kernel)
theorem dX35_at_47 : decode cX35_at 47 = .ok (.sipush 255, 3) := dc_17 (a := 0) (b := 255) (v := 255) (by decide +kernel)
theorem dX35_at_50 : decode cX35_at 50 = .ok (.invokevirtual 590, 3) := dc_182 (a := 2) (b := 78) (n := 590) (by decide +kernel)
theorem dX35_at_53 : decode cX35_at 53 = .ok (.imul, 1) := dc_104 (by decide +kernel)
theorem dX35_at_54 : decode cX35_at 54 = .ok (.iadd, 1) := dc_96 (by decide +kernel)
theorem dX35_at_55 : decode cX35_at 55 = .ok (.ireturn, 1) := dc_172 (by decide +kernel)
theorem dX35_at_56 : decode cX35_at 56 = .ok (.iload_n 1, 1) := dc_27 (by decide +kernel)
theorem dX35_at_57 : decode cX35_at 57 = .ok (.bipush 83, 2) := dc_16 (a := 83) (v := 83) (by decide +kernel)
theorem dX35_at_59 : decode cX35_at 59 = .ok (.if_icmp .ge 14, 3) := dc_162 (a := 0) (b := 14) (v := 14) (by decide +kernel)
theorem dX35_at_62 : decode cX35_at 62 = .ok (.sipush 1972, 3) := dc_17 (a := 7) (b := 180) (v := 1972) (by decide +kernel)
theorem dX35_at_65 : decode cX35_at 65 = .ok (.iload_n 1, 1) := dc_27 (by decide +kernel)
theorem dX35_at_66 : decode cX35_at 66 = .ok (.iadd, 1) := dc_96 (by decide +kernel)
theorem dX35_at_67 : decode cX35_at 67 = .ok (.bipush 70, 2) := dc_16 (a := 70) (v := 70) (by decide +kernel)
theorem dX35_at_69 : decode cX35_at 69 = .ok (.isub, 1) := dc_100 (by decide +kernel)
theorem dX35_at_70 : decode cX35_at 70 = .ok (.goto 34, 3) := dc_167 (a := 0) (b := 34) (v := 34) (by decide +kernel)
theorem dX35_at_73 : decode cX35_at 73 = .ok (.iload_n 1, 1) := dc_27 (by decide +kernel)
theorem dX35_at_74 : decode cX35_at 74 = .ok (.bipush 89, 2) := dc_16 (a := 89) (v := 89) (by decide +kernel)
theorem dX35_at_76 : decode cX35_at 76 = .ok (.if_icmp .ge 14, 3) := dc_162 (a := 0) (b := 14) (v := 14) (by decide +kernel)
theorem dX35_at_79 : decode cX35_at 79 = .ok (.sipush 2241, 3) := dc_17 (a := 8) (b := 193) (v := 2241) (by decide +kernel)
theorem dX35_at_82 : decode cX35_at 82 = .ok (.iload_n 1, 1) := dc_27 (by decide +kernel)
theorem dX35_at_83 : decode cX35_at 83 = .ok (.iadd, 1) := dc_96 (by decide +kernel)
theorem dX35_at_84 : decode cX35_at 84 = .ok (.bipush 83, 2) := dc_16 (a := 83) (v := 83) (by decide +kernel)
theorem dX35_at_86 : decode cX35_at 86 = .ok (.isub, 1) := dc_100 (by decide +kernel)
theorem dX35_at_87 : decode cX35_at 87 = .ok (.goto 17, 3) := dc_167 (a := 0) (b := 17) (v := 17) (by decide +kernel)
theorem dX35_at_90 : decode cX35_at 90 = .ok (.sipush 2247, 3) := dc_17 (a := 8) (b := 199) (v := 2247) (by decide +kernel)
theorem dX35_at_93 : decode cX35_at 93 = .ok (.iconst 4, 1) := dc_7 (by decide +kernel)
theorem dX35_at_94 : decode cX35_at 94 = .ok (.sipush 256, 3) := dc_17 (a := 1) (b := 0) (v := 256) (by decide +kernel)
theorem dX35_at_97 : decode cX35_at 97 = .ok (.iload_n 1, 1) := dc_27 (by decide +kernel)
theorem dX35_at_98 : decode cX35_at 98 = .ok (.iadd, 1) := dc_96 (by decide +kernel)
theorem dX35_at_99 : decode cX35_at 99 = .ok (.bipush 89, 2) := dc_16 (a := 89) (v := 89) (by decide +kernel)
theorem dX35_at_101 : decode cX35_at 101 = .ok (.isub, 1) := dc_100 (by decide +kernel)
theorem dX35_at_102 : decode cX35_at 102 = .ok (.imul, 1) := dc_104 (by decide +kernel)
theorem dX35_at_103 : decode cX35_at 103 = .ok (.iadd, 1) := dc_96 (by decide +kernel)
theorem dX35_at_104 : decode cX35_at 104 = .ok (.ireturn, 1) := dc_172 (by decide +kernel)
def fX35_at_b104 (sN : Nat → eH → Option (Int32 × eH)) (s0 : Int32) (h : eH) : Option (Int32 × eH) :=
  some (s0, h)
theorem pX35_at_b104 {w : eW} {d : Nat} {dr : Nat} (hd : dr + 2 ≤ d + 1) (hdr : 12 ≤ dr) {sN : Nat → eH → Option (Int32 × eH)} (hsN : ∀ a h q, sN a h = some q → wm w dr YX35_number [.ref a] h (e_is (e_rn c_I q))) {s0 : Int32} {h : eH} {q} (hf : fX35_at_b104 sN s0 h = some q) : wp w (d + 1) YX35_at 104 [none, none] [.int s0] h (e_is (e_rn c_I q)) := by
  unfold fX35_at_b104 at hf
  cases hf
  exact w_iret dX35_at_104 rfl rfl rfl
def fX35_at (sN : Nat → eH → Option (Int32 × eH)) (this : Nat) (p0 : Int32) (h : eH) : Option (Int32 × eH) :=
  if ¬ p0 = (41 : Int32) then
    if ¬ p0 = (42 : Int32) then
      if ¬ p0 = (43 : Int32) then
        if (83 : Int32) ≤ p0 then
          if (89 : Int32) ≤ p0 then
            fX35_at_b104 sN ((2247 : Int32) + ((4 : Int32) * (((256 : Int32) + p0) - (89 : Int32)))) h
          else
            fX35_at_b104 sN (((2241 : Int32) + p0) - (83 : Int32)) h
        else
          fX35_at_b104 sN (((1972 : Int32) + p0) - (70 : Int32)) h
      else
        (k_ok 34 h this).bind fun _ =>
        (fX35_small sN this (255 : Int32) h).bind fun q7 =>
        some (((2247 : Int32) + ((4 : Int32) * q7.1)), q7.2)
    else
      (k_ok 34 h this).bind fun _ =>
      (fX35_small sN this (255 : Int32) h).bind fun q9 =>
      some (((1985 : Int32) + q9.1), q9.2)
  else
    (k_ok 34 h this).bind fun _ =>
    (fX35_small sN this (255 : Int32) h).bind fun q11 =>
    some (((1716 : Int32) + q11.1), q11.2)
theorem pX35_at {w : eW} {d : Nat} {dr : Nat} (hd : dr + 2 ≤ d) (hdr : 12 ≤ dr) {sN : Nat → eH → Option (Int32 × eH)} (hsN : ∀ a h q, sN a h = some q → wm w dr YX35_number [.ref a] h (e_is (e_rn c_I q))) {this : Nat} {p0 : Int32} {h : eH} {q} (hf : fX35_at sN this p0 h = some q) : wm w d YX35_at [.ref this, .int p0] h (e_is (e_rn c_I q)) := by
  obtain ⟨d, rfl⟩ : ∃ e, d = e + 1 := ⟨d - 1, by omega⟩
  show wp w (d + 1) YX35_at 0 [some (.ref this), some (.int p0)] [] h _
  unfold fX35_at at hf
  refine w_iload_n dX35_at_0 rfl rfl ?_
  refine w_bipush dX35_at_1 (v := 41) (by decide) ?_
  refine w_icmp_ne 18 dX35_at_3 (by decide) (fun c1 => ?_) (fun c1 => ?_)
  · replace hf := (if_pos (show ¬ p0 = (41 : Int32) from c1)).symm.trans hf
    refine w_iload_n dX35_at_18 rfl rfl ?_
    refine w_bipush dX35_at_19 (v := 42) (by decide) ?_
    refine w_icmp_ne 36 dX35_at_21 (by decide) (fun c2 => ?_) (fun c2 => ?_)
    · replace hf := (if_pos (show ¬ p0 = (42 : Int32) from c2)).symm.trans hf
      refine w_iload_n dX35_at_36 rfl rfl ?_
      refine w_bipush dX35_at_37 (v := 43) (by decide) ?_
      refine w_icmp_ne 56 dX35_at_39 (by decide) (fun c3 => ?_) (fun c3 => ?_)
      · replace hf := (if_pos (show ¬ p0 = (43 : Int32) from c3)).symm.trans hf
        refine w_iload_n dX35_at_56 rfl rfl ?_
        refine w_bipush dX35_at_57 (v := 83) (by decide) ?_
        refine w_icmp_ge 73 dX35_at_59 (by decide) (fun c4 => ?_) (fun c4 => ?_)
        · replace hf := (if_pos (show (83 : Int32) ≤ p0 from c4)).symm.trans hf
          refine w_iload_n dX35_at_73 rfl rfl ?_
          refine w_bipush dX35_at_74 (v := 89) (by decide) ?_
          refine w_icmp_ge 90 dX35_at_76 (by decide) (fun c5 => ?_) (fun c5 => ?_)
          · replace hf := (if_pos (show (89 : Int32) ≤ p0 from c5)).symm.trans hf
            refine w_sipush dX35_at_90 (v := 2247) (by decide) ?_
            refine w_iconst dX35_at_93 (v := 4) (by decide) ?_
            refine w_sipush dX35_at_94 (v := 256) (by decide) ?_
            refine w_iload_n dX35_at_97 rfl rfl ?_
            refine w_iadd dX35_at_98 ?_
            refine w_bipush dX35_at_99 (v := 89) (by decide) ?_
            refine w_isub dX35_at_101 ?_
            refine w_imul dX35_at_102 ?_
            refine w_iadd dX35_at_103 ?_
            exact (pX35_at_b104 hd hdr hsN hf).to trivial
          · replace hf := (if_neg (show ¬ ((89 : Int32) ≤ p0) from c5)).symm.trans hf
            refine w_sipush dX35_at_79 (v := 2241) (by decide) ?_
            refine w_iload_n dX35_at_82 rfl rfl ?_
            refine w_iadd dX35_at_83 ?_
            refine w_bipush dX35_at_84 (v := 83) (by decide) ?_
            refine w_isub dX35_at_86 ?_
            refine w_goto 104 dX35_at_87 (by decide) ?_
            exact (pX35_at_b104 hd hdr hsN hf).to trivial
        · replace hf := (if_neg (show ¬ ((83 : Int32) ≤ p0) from c4)).symm.trans hf
          refine w_sipush dX35_at_62 (v := 1972) (by decide) ?_
          refine w_iload_n dX35_at_65 rfl rfl ?_
          refine w_iadd dX35_at_66 ?_
          refine w_bipush dX35_at_67 (v := 70) (by decide) ?_
          refine w_isub dX35_at_69 ?_
          refine w_goto 104 dX35_at_70 (by decide) ?_
          exact (pX35_at_b104 hd hdr hsN hf).to trivial
      · replace hf := (if_neg (show ¬ (¬ p0 = (43 : Int32)) from (fun z => z c3))).symm.trans hf
        refine w_sipush dX35_at_42 (v := 2247) (by decide) ?_
        refine w_iconst dX35_at_45 (v := 4) (by decide) ?_
        refine w_aload_n dX35_at_46 rfl rfl ?_
        refine w_sipush dX35_at_47 (v := 255) (by decide) ?_
        obtain ⟨_, b6, hf⟩ := Option.bind_eq_some_iff.mp hf
        refine x_cnI hf (e_stV (Yc := YX35_small) (ci := 34) (av := [.int (255 : Int32)]) (st := [.int (4 : Int32), .int (2247 : Int32)]) dX35_at_50 q5271 mX35_small rfl (k_ok_some b6).1 (k_ok_some b6).2) mX35_small.2.2.1 mX35_small.2.2.2.2.1 (Nat.le_of_ble_eq_true rfl) (Nat.le_of_ble_eq_true rfl) (fun q hq => pX35_small (by omega) hdr hsN hq) (fun q7 hf => ?_)
        refine w_imul dX35_at_53 ?_
        refine w_iadd dX35_at_54 ?_
        cases hf
        exact w_iret dX35_at_55 rfl rfl rfl
    · replace hf := (if_neg (show ¬ (¬ p0 = (42 : Int32)) from (fun z => z c2))).symm.trans hf
      refine w_sipush dX35_at_24 (v := 1985) (by decide) ?_
      refine w_aload_n dX35_at_27 rfl rfl ?_
      refine w_sipush dX35_at_28 (v := 255) (by decide) ?_
      obtain ⟨_, b8, hf⟩ := Option.bind_eq_some_iff.mp hf
      refine x_cnI hf (e_stV (Yc := YX35_small) (ci := 34) (av := [.int (255 : Int32)]) (st := [.int (1985 : Int32)]) dX35_at_31 q5271 mX35_small rfl (k_ok_some b8).1 (k_ok_some b8).2) mX35_small.2.2.1 mX35_small.2.2.2.2.1 (Nat.le_of_ble_eq_true rfl) (Nat.le_of_ble_eq_true rfl) (fun q hq => pX35_small (by omega) hdr hsN hq) (fun q9 hf => ?_)
      refine w_iadd dX35_at_34 ?_
      cases hf
      exact w_iret dX35_at_35 rfl rfl rfl
  · replace hf := (if_neg (show ¬ (¬ p0 = (41 : Int32)) from (fun z => z c1))).symm.trans hf
    refine w_sipush dX35_at_6 (v := 1716) (by decide) ?_
    refine w_aload_n dX35_at_9 rfl rfl ?_
    refine w_sipush dX35_at_10 (v := 255) (by decide) ?_
    obtain ⟨_, b10, hf⟩ := Option.bind_eq_some_iff.mp hf
    refine x_cnI hf (e_stV (Yc := YX35_small) (ci := 34) (av := [.int (255 : Int32)]) (st := [.int (1716 : Int32)]) dX35_at_13 q5271 mX35_small rfl (k_ok_some b10).1 (k_ok_some b10).2) mX35_small.2.2.1 mX35_small.2.2.2.2.1 (Nat.le_of_ble_eq_true rfl) (Nat.le_of_ble_eq_true rfl) (fun q hq => pX35_small (by omega) hdr hsN hq) (fun q11 hf => ?_)
    refine w_iadd dX35_at_16 ?_
    cases hf
    exact w_iret dX35_at_17 rfl rfl rfl
abbrev cX35_bad : ByteArray := prog_37_method_149_code
def yX35_bad : MethodName := ⟨RX35, "bad", "(JJ)I"⟩
def YX35_bad : eY := (yX35_bad, cX35_bad, 6, (Option.some FieldType.int), [])
theorem mX35_bad : e_ms YX35_bad 2 := ⟨q5506, q466, q5507, by decide, by decide +kernel, (e_sig (by decide +kernel))⟩
theorem dX35_bad_0 : decode cX35_bad 0 = .ok (.lload_n 2, 1) := dc_32 (by decide +kernel)
theorem dX35_bad_1 : decode cX35_bad 1 = .ok (.lconst 0, 1) := dc_9 (by decide +kernel)
theorem dX35_bad_2 : decode cX35_bad 2 = .ok (.lcmp, 1) := dc_148 (by decide +kernel)
theorem dX35_bad_3 : decode cX35_bad 3 = .ok (.ifCond .ne 7, 3) := dc_154 (a := 0) (b := 7) (v := 7) (by decide +kernel)
theorem dX35_bad_6 : decode cX35_bad 6 = .ok (.sipush 10000, 3) := dc_17 (a := 39) (b := 16) (v := 10000) (by decide +kernel)
theorem dX35_bad_9 : decode cX35_bad 9 = .ok (.ireturn, 1) := dc_172 (by decide +kernel)
theorem dX35_bad_10 : decode cX35_bad 10 = .ok (.lload_n 0, 1) := dc_30 (by decide +kernel)
theorem dX35_bad_11 : decode cX35_bad 11 = .ok (.lstore 4, 2) := dc_55 (a := 4) (by decide +kernel)
theorem dX35_bad_13 : decode cX35_bad 13 = .ok (.lload_n 0, 1) := dc_30 (by decide +kernel)
theorem dX35_bad_14 : decode cX35_bad 14 = .ok (.ldc2_w 1037, 3) := dc_20 (a := 4) (b := 13) (n := 1037) (by decide +kernel)
theorem dX35_bad_17 : decode cX35_bad 17 = .ok (.lcmp, 1) := dc_148 (by decide +kernel)
theorem dX35_bad_18 : decode cX35_bad 18 = .ok (.ifCond .gt 15, 3) := dc_157 (a := 0) (b := 15) (v := 15) (by decide +kernel)
theorem dX35_bad_21 : decode cX35_bad 21 = .ok (.ldc2_w 1039, 3) := dc_20 (a := 4) (b := 15) (n := 1039) (by decide +kernel)
theorem dX35_bad_24 : decode cX35_bad 24 = .ok (.lload_n 0, 1) := dc_30 (by decide +kernel)
theorem dX35_bad_25 : decode cX35_bad 25 = .ok (.lmul, 1) := dc_105 (by decide +kernel)
theorem dX35_bad_26 : decode cX35_bad 26 = .ok (.lload_n 2, 1) := dc_32 (by decide +kernel)
theorem dX35_bad_27 : decode cX35_bad 27 = .ok (.ldiv, 1) := dc_109 (by decide +kernel)
theorem dX35_bad_28 : decode cX35_bad 28 = .ok (.lstore 4, 2) := dc_55 (a := 4) (by decide +kernel)
theorem dX35_bad_30 : decode cX35_bad 30 = .ok (.goto 20, 3) := dc_167 (a := 0) (b := 20) (v := 20) (by decide +kernel)
theorem dX35_bad_33 : decode cX35_bad 33 = .ok (.lload_n 2, 1) := dc_32 (by decide +kernel)
theorem dX35_bad_34 : decode cX35_bad 34 = .ok (.ldc2_w 1041, 3) := dc_20 (a := 4) (b := 17) (n := 1041) (by decide +kernel)
theorem dX35_bad_37 : decode cX35_bad 37 = .ok (.lcmp, 1) := dc_148 (by decide +kernel)
theorem dX35_bad_38 : decode cX35_bad 38 = .ok (.ifCond .lt 12, 3) := dc_155 (a := 0) (b := 12) (v := 12) (by decide +kernel)
theorem dX35_bad_41 : decode cX35_bad 41 = .ok (.lload_n 0, 1) := dc_30 (by decide +kernel)
theorem dX35_bad_42 : decode cX35_bad 42 = .ok (.lload_n 2, 1) := dc_32 (by decide +kernel)
theorem dX35_bad_43 : decode cX35_bad 43 = .ok (.ldc2_w 1039, 3) := dc_20 (a := 4) (b := 15) (n := 1039) (by decide +kernel)
theorem dX35_bad_46 : decode cX35_bad 46 = .ok (.ldiv, 1) := dc_109 (by decide +kernel)
theorem dX35_bad_47 : decode cX35_bad 47 = .ok (.ldiv, 1) := dc_109 (by decide +kernel)
theorem dX35_bad_48 : decode cX35_bad 48 = .ok (.lstore 4, 2) := dc_55 (a := 4) (by decide +kernel)
theorem dX35_bad_50 : decode cX35_bad 50 = .ok (.lload 4, 2) := dc_22 (a := 4) (by decide +kernel)
theorem dX35_bad_52 : decode cX35_bad 52 = .ok (.ldc2_w 1043, 3) := dc_20 (a := 4) (b := 19) (n := 1043) (by decide +kernel)
theorem dX35_bad_55 : decode cX35_bad 55 = .ok (.lcmp, 1) := dc_148 (by decide +kernel)
theorem dX35_bad_56 : decode cX35_bad 56 = .ok (.ifCond .le 9, 3) := dc_158 (a := 0) (b := 9) (v := 9) (by decide +kernel)
theorem dX35_bad_59 : decode cX35_bad 59 = .ok (.sipush 10000, 3) := dc_17 (a := 39) (b := 16) (v := 10000) (by decide +kernel)
theorem dX35_bad_62 : decode cX35_bad 62 = .ok (.goto 20, 3) := dc_167 (a := 0) (b := 20) (v := 20) (by decide +kernel)
theorem dX35_bad_65 : decode cX35_bad 65 = .ok (.lload 4, 2) := dc_22 (a := 4) (by decide +kernel)
theorem dX35_bad_67 : decode cX35_bad 67 = .ok (.lload 4, 2) := dc_22 (a := 4) (by decide +kernel)
theorem dX35_bad_69 : decode cX35_bad 69 = .ok (.lmul, 1) := dc_105 (by decide +kernel)
theorem dX35_bad_70 : decode cX35_bad 70 = .ok (.lload 4, 2) := dc_22 (a := 4) (by decide +kernel)
theorem dX35_bad_72 : decode cX35_bad 72 = .ok (.lmul, 1) := dc_105 (by decide +kernel)
theorem dX35_bad_73 : decode cX35_bad 73 = .ok (.ldc2_w 1045, 3) := dc_20 (a := 4) (b := 21) (n := 1045) (by decide +kernel)
theorem dX35_bad_76 : decode cX35_bad 76 = .ok (.ladd, 1) := dc_97 (by decide +kernel)
theorem dX35_bad_77 : decode cX35_bad 77 = .ok (.ldc2_w 1047, 3) := dc_20 (a := 4) (b := 23) (n := 1047) (by decide +kernel)
theorem dX35_bad_80 : decode cX35_bad 80 = .ok (.ldiv, 1) := dc_109 (by decide +kernel)
theorem dX35_bad_81 : decode cX35_bad 81 = .ok (.l2i, 1) := dc_136 (by decide +kernel)
theorem dX35_bad_82 : decode cX35_bad 82 = .ok (.ireturn, 1) := dc_172 (by decide +kernel)
def fX35_bad_b82 (s0 : Int32) (h : eH) : Option (Int32 × eH) :=
  some (s0, h)
theorem pX35_bad_b82 {w : eW} {d : Nat} (hd : 0 ≤ d) {s0 : Int32} {h : eH} {q} (hf : fX35_bad_b82 s0 h = some q) : wp w d YX35_bad 82 [none, none, none, none, none, none] [.int s0] h (e_is (e_rn c_I q)) := by
  unfold fX35_bad_b82 at hf
  cases hf
  exact w_iret dX35_bad_82 rfl rfl rfl
def fX35_bad_b50 (l4 : Int64) (h : eH) : Option (Int32 × eH) :=
  if (lg_cmp l4 (1290 : Int64)) ≤ 0 then
    fX35_bad_b82 (((((l4 * l4) * l4) + (131072 : Int64)) / (262144 : Int64))).toInt32 h
  else
    fX35_bad_b82 (10000 : Int32) h
theorem pX35_bad_b50 {w : eW} {d : Nat} (hd : 0 ≤ d) {l4 : Int64} {h : eH} {q} (hf : fX35_bad_b50 l4 h = some q) : wp w d YX35_bad 50 [none, none, none, none, some (.long l4), none] [] h (e_is (e_rn c_I q)) := by
  unfold fX35_bad_b50 at hf
  refine w_lload dX35_bad_50 rfl ?_
  refine w_ldc2 dX35_bad_52 q5511 ?_
  refine w_lcmp dX35_bad_55 ?_
  refine w_if_le 65 dX35_bad_56 (by decide) (fun c1 => ?_) (fun c1 => ?_)
  · replace hf := (if_pos (show (lg_cmp l4 (1290 : Int64)) ≤ 0 from c1)).symm.trans hf
    refine w_lload dX35_bad_65 rfl ?_
    refine w_lload dX35_bad_67 rfl ?_
    refine w_lmul dX35_bad_69 ?_
    refine w_lload dX35_bad_70 rfl ?_
    refine w_lmul dX35_bad_72 ?_
    refine w_ldc2 dX35_bad_73 q5512 ?_
    refine w_ladd dX35_bad_76 ?_
    refine w_ldc2 dX35_bad_77 q5513 ?_
    refine w_ldiv dX35_bad_80 (by decide) ?_
    refine w_l2i dX35_bad_81 ?_
    exact (pX35_bad_b82 hd hf).to trivial
  · replace hf := (if_neg (show ¬ ((lg_cmp l4 (1290 : Int64)) ≤ 0) from c1)).symm.trans hf
    refine w_sipush dX35_bad_59 (v := 10000) (by decide) ?_
    refine w_goto 82 dX35_bad_62 (by decide) ?_
    exact (pX35_bad_b82 hd hf).to trivial
def fX35_bad (p0 : Int64) (p1 : Int64) (h : eH) : Option (Int32 × eH) :=
  if ¬ (lg_cmp p1 (0 : Int64)) = 0 then
    if 0 < (lg_cmp p0 (7230584 : Int64)) then
      if (lg_cmp p1 (1663497 : Int64)) < 0 then
        fX35_bad_b50 p0 h
      else
        if (p1 / (297 : Int64)) = 0 then none else
        fX35_bad_b50 (p0 / (p1 / (297 : Int64))) h
    else
      if p1 = 0 then none else
      fX35_bad_b50 (((297 : Int64) * p0) / p1) h
  else
    some ((10000 : Int32), h)
theorem pX35_bad {w : eW} {d : Nat} (hd : 0 ≤ d) {p0 : Int64} {p1 : Int64} {h : eH} {q} (hf : fX35_bad p0 p1 h = some q) : wm w d YX35_bad [.long p0, .long p1] h (e_is (e_rn c_I q)) := by
  show wp w d YX35_bad 0 [some (.long p0), none, some (.long p1), none, none, none] [] h _
  unfold fX35_bad at hf
  refine w_lload_n dX35_bad_0 rfl rfl ?_
  refine w_lconst dX35_bad_1 (v := 0) (by decide) ?_
  refine w_lcmp dX35_bad_2 ?_
  refine w_if_ne 10 dX35_bad_3 (by decide) (fun c1 => ?_) (fun c1 => ?_)
  · replace hf := (if_pos (show ¬ (lg_cmp p1 (0 : Int64)) = 0 from c1)).symm.trans hf
    refine w_lload_n dX35_bad_10 rfl rfl ?_
    refine w_lstore dX35_bad_11 (by decide) (ls' := [some (.long p0), none, some (.long p1), none, some (.long p0), none]) rfl ?_
    refine w_lload_n dX35_bad_13 rfl rfl ?_
    refine w_ldc2 dX35_bad_14 q5508 ?_
    refine w_lcmp dX35_bad_17 ?_
    refine w_if_gt 33 dX35_bad_18 (by decide) (fun c2 => ?_) (fun c2 => ?_)
    · replace hf := (if_pos (show 0 < (lg_cmp p0 (7230584 : Int64)) from c2)).symm.trans hf
      refine w_lload_n dX35_bad_33 rfl rfl ?_
      refine w_ldc2 dX35_bad_34 q5510 ?_
      refine w_lcmp dX35_bad_37 ?_
      refine w_if_lt 50 dX35_bad_38 (by decide) (fun c3 => ?_) (fun c3 => ?_)
      · replace hf := (if_pos (show (lg_cmp p1 (1663497 : Int64)) < 0 from c3)).symm.trans hf
        exact (pX35_bad_b50 hd hf).to ⟨rfl, trivial⟩
      · replace hf := (if_neg (show ¬ ((lg_cmp p1 (1663497 : Int64)) < 0) from c3)).symm.trans hf
        refine w_lload_n dX35_bad_41 rfl rfl ?_
        refine w_lload_n dX35_bad_42 rfl rfl ?_
        refine w_ldc2 dX35_bad_43 q5509 ?_
        refine w_ldiv dX35_bad_46 (by decide) ?_
        by_cases c4 : (p1 / (297 : Int64)) = 0
        · exact absurd ((if_pos c4).symm.trans hf) (by simp)
        replace hf := (if_neg c4).symm.trans hf
        refine w_ldiv dX35_bad_47 c4 ?_
        refine w_lstore dX35_bad_48 (by decide) (ls' := [some (.long p0), none, some (.long p1), none, some (.long (p0 / (p1 / (297 : Int64)))), none]) rfl ?_
        exact (pX35_bad_b50 hd hf).to ⟨rfl, trivial⟩
    · replace hf := (if_neg (show ¬ (0 < (lg_cmp p0 (7230584 : Int64))) from c2)).symm.trans hf
      refine w_ldc2 dX35_bad_21 q5509 ?_
      refine w_lload_n dX35_bad_24 rfl rfl ?_
      refine w_lmul dX35_bad_25 ?_
      refine w_lload_n dX35_bad_26 rfl rfl ?_
      by_cases c5 : p1 = 0
      · exact absurd ((if_pos c5).symm.trans hf) (by simp)
      replace hf := (if_neg c5).symm.trans hf
      refine w_ldiv dX35_bad_27 c5 ?_
      refine w_lstore dX35_bad_28 (by decide) (ls' := [some (.long p0), none, some (.long p1), none, some (.long (((297 : Int64) * p0) / p1)), none]) rfl ?_
      refine w_goto 50 dX35_bad_30 (by decide) ?_
      exact (pX35_bad_b50 hd hf).to ⟨rfl, trivial⟩
  · replace hf := (if_neg (show ¬ (¬ (lg_cmp p1 (0 : Int64)) = 0) from (fun z => z c1))).symm.trans hf
    refine w_sipush dX35_bad_6 (v := 10000) (by decide) ?_
    cases hf
    exact w_iret dX35_bad_9 rfl rfl rfl
abbrev cX35_badness : ByteArray := prog_37_method_150_code
def yX35_badness : MethodName := ⟨RX35, "badness", "()I"⟩
def YX35_badness : eY := (yX35_badness, cX35_badness, 3, (Option.some FieldType.int), [])
theorem mX35_badness : e_mv YX35_badness RX35 0 := ⟨q5503, qs322, q5504, by decide, by decide +kernel, (e_sig (by decide +kernel))⟩
theorem dX35_badness_0 : decode cX35_badness 0 = .ok (.aload_n 0, 1) := dc_42 (by decide +kernel)
theorem dX35_badness_1 : decode cX35_badness 1 = .ok (.getfield 1049, 3) := dc_180 (a := 4) (b := 25) (n := 1049) (by decide +kernel)
theorem dX35_badness_4 : decode cX35_badness 4 = .ok (.i2l, 1) := dc_133 (by decide +kernel)
theorem dX35_badness_5 : decode cX35_badness 5 = .ok (.aload_n 0, 1) := dc_42 (by decide +kernel)
theorem dX35_badness_6 : decode cX35_badness 6 = .ok (.getfield 952, 3) := dc_180 (a := 3) (b := 184) (n := 952) (by decide +kernel)
theorem dX35_badness_9 : decode cX35_badness 9 = .ok (.lsub, 1) := dc_101 (by decide +kernel)
theorem dX35_badness_10 : decode cX35_badness 10 = .ok (.lstore_n 1, 1) := dc_64 (by decide +kernel)
theorem dX35_badness_11 : decode cX35_badness 11 = .ok (.lload_n 1, 1) := dc_31 (by decide +kernel)
theorem dX35_badness_12 : decode cX35_badness 12 = .ok (.lconst 0, 1) := dc_9 (by decide +kernel)
theorem dX35_badness_13 : decode cX35_badness 13 = .ok (.lcmp, 1) := dc_148 (by decide +kernel)
theorem dX35_badness_14 : decode cX35_badness 14 = .ok (.ifCond .ne 5, 3) := dc_154 (a := 0) (b := 5) (v := 5) (by decide +kernel)
theorem dX35_badness_17 : decode cX35_badness 17 = .ok (.iconst 0, 1) := dc_3 (by decide +kernel)
theorem dX35_badness_18 : decode cX35_badness 18 = .ok (.ireturn, 1) := dc_172 (by decide +kernel)
theorem dX35_badness_19 : decode cX35_badness 19 = .ok (.lload_n 1, 1) := dc_31 (by decide +kernel)
theorem dX35_badness_20 : decode cX35_badness 20 = .ok (.lconst 0, 1) := dc_9 (by decide +kernel)
theorem dX35_badness_21 : decode cX35_badness 21 = .ok (.lcmp, 1) := dc_148 (by decide +kernel)
theorem dX35_badness_22 : decode cX35_badness 22 = .ok (.ifCond .le 43, 3) := dc_158 (a := 0) (b := 43) (v := 43) (by decide +kernel)
theorem dX35_badness_25 : decode cX35_badness 25 = .ok (.aload_n 0, 1) := dc_42 (by decide +kernel)
theorem dX35_badness_26 : decode cX35_badness 26 = .ok (.getfield 188, 3) := dc_180 (a := 0) (b := 188) (n := 188) (by decide +kernel)
theorem dX35_badness_29 : decode cX35_badness 29 = .ok (.iconst 1, 1) := dc_4 (by decide +kernel)
theorem dX35_badness_30 : decode cX35_badness 30 = .ok (.laload, 1) := dc_47 (by decide +kernel)
theorem dX35_badness_31 : decode cX35_badness 31 = .ok (.aload_n 0, 1) := dc_42 (by decide +kernel)
theorem dX35_badness_32 : decode cX35_badness 32 = .ok (.getfield 188, 3) := dc_180 (a := 0) (b := 188) (n := 188) (by decide +kernel)
theorem dX35_badness_35 : decode cX35_badness 35 = .ok (.iconst 2, 1) := dc_5 (by decide +kernel)
theorem dX35_badness_36 : decode cX35_badness 36 = .ok (.laload, 1) := dc_47 (by decide +kernel)
theorem dX35_badness_37 : decode cX35_badness 37 = .ok (.ladd, 1) := dc_97 (by decide +kernel)
theorem dX35_badness_38 : decode cX35_badness 38 = .ok (.aload_n 0, 1) := dc_42 (by decide +kernel)
theorem dX35_badness_39 : decode cX35_badness 39 = .ok (.getfield 188, 3) := dc_180 (a := 0) (b := 188) (n := 188) (by decide +kernel)
theorem dX35_badness_42 : decode cX35_badness 42 = .ok (.iconst 3, 1) := dc_6 (by decide +kernel)
theorem dX35_badness_43 : decode cX35_badness 43 = .ok (.laload, 1) := dc_47 (by decide +kernel)
theorem dX35_badness_44 : decode cX35_badness 44 = .ok (.ladd, 1) := dc_97 (by decide +kernel)
theorem dX35_badness_45 : decode cX35_badness 45 = .ok (.lconst 0, 1) := dc_9 (by decide +kernel)
theorem dX35_badness_46 : decode cX35_badness 46 = .ok (.lcmp, 1) := dc_148 (by decide +kernel)
theorem dX35_badness_47 : decode cX35_badness 47 = .ok (.ifCond .le 7, 3) := dc_158 (a := 0) (b := 7) (v := 7) (by decide +kernel)
theorem dX35_badness_50 : decode cX35_badness 50 = .ok (.iconst 0, 1) := dc_3 (by decide +kernel)
theorem dX35_badness_51 : decode cX35_badness 51 = .ok (.goto 13, 3) := dc_167 (a := 0) (b := 13) (v := 13) (by decide +kernel)
theorem dX35_badness_54 : decode cX35_badness 54 = .ok (.lload_n 1, 1) := dc_31 (by decide +kernel)
theorem dX35_badness_55 : decode cX35_badness 55 = .ok (.aload_n 0, 1) := dc_42 (by decide +kernel)
theorem dX35_badness_56 : decode cX35_badness 56 = .ok (.getfield 188, 3) := dc_180 (a := 0) (b := 188) (n := 188) (by decide +kernel)
theorem dX35_badness_59 : decode cX35_badness 59 = .ok (.iconst 0, 1) := dc_3 (by decide +kernel)
theorem dX35_badness_60 : decode cX35_badness 60 = .ok (.laload, 1) := dc_47 (by decide +kernel)
theorem dX35_badness_61 : decode cX35_badness 61 = .ok (.invokestatic 1052, 3) := dc_184 (a := 4) (b := 28) (n := 1052) (by decide +kernel)
theorem dX35_badness_64 : decode cX35_badness 64 = .ok (.ireturn, 1) := dc_172 (by decide +kernel)
theorem dX35_badness_65 : decode cX35_badness 65 = .ok (.lload_n 1, 1) := dc_31 (by decide +kernel)
theorem dX35_badness_66 : decode cX35_badness 66 = .ok (.lneg, 1) := dc_117 (by decide +kernel)
theorem dX35_badness_67 : decode cX35_badness 67 = .ok (.aload_n 0, 1) := dc_42 (by decide +kernel)
theorem dX35_badness_68 : decode cX35_badness 68 = .ok (.getfield 966, 3) := dc_180 (a := 3) (b := 198) (n := 966) (by decide +kernel)
theorem dX35_badness_71 : decode cX35_badness 71 = .ok (.lcmp, 1) := dc_148 (by decide +kernel)
theorem dX35_badness_72 : decode cX35_badness 72 = .ok (.ifCond .le 9, 3) := dc_158 (a := 0) (b := 9) (v := 9) (by decide +kernel)
theorem dX35_badness_75 : decode cX35_badness 75 = .ok (.ldc_w 388, 3) := dc_19 (a := 1) (b := 132) (n := 388) (by decide +kernel)
theorem dX35_badness_78 : decode cX35_badness 78 = .ok (.goto 12, 3) := dc_167 (a := 0) (b := 12) (v := 12) (by decide +kernel)
theorem dX35_badness_81 : decode cX35_badness 81 = .ok (.lload_n 1, 1) := dc_31 (by decide +kernel)
theorem dX35_badness_82 : decode cX35_badness 82 = .ok (.lneg, 1) := dc_117 (by decide +kernel)
theorem dX35_badness_83 : decode cX35_badness 83 = .ok (.aload_n 0, 1) := dc_42 (by decide +kernel)
theorem dX35_badness_84 : decode cX35_badness 84 = .ok (.getfield 966, 3) := dc_180 (a := 3) (b := 198) (n := 966) (by decide +kernel)
theorem dX35_badness_87 : decode cX35_badness 87 = .ok (.invokestatic 1052, 3) := dc_184 (a := 4) (b := 28) (n := 1052) (by decide +kernel)
theorem dX35_badness_90 : decode cX35_badness 90 = .ok (.ireturn, 1) := dc_172 (by decide +kernel)
theorem GX35_1049 {w : eW} {d : Nat} {Y : eY} {pc : Nat} {ls : eL} {st : List Value} {h : eH} {Q : eO → eH → Prop} {a : Nat} {x : Int32} (hf : g_I 34 h a 98 = some x) (hd : decode Y.2.1 pc = .ok (.getfield 1049, 3)) (hY : Y.1.cls = RX35) (kk : wp w d Y (pc + 3) ls (.int x :: st) h Q) : wp w d Y pc ls (.ref a :: st) h Q := x_gI (ci := 34) (k := 98) hf hd rfl (by decide) (by rw [hY]; exact q4599) kk
def fX35_badness_b64 (s0 : Int32) (h : eH) : Option (Int32 × eH) :=
  some (s0, h)
theorem pX35_badness_b64 {w : eW} {d : Nat} (hd : 1 ≤ d + 1) {s0 : Int32} {h : eH} {q} (hf : fX35_badness_b64 s0 h = some q) : wp w (d + 1) YX35_badness 64 [none, none, none] [.int s0] h (e_is (e_rn c_I q)) := by
  unfold fX35_badness_b64 at hf
  cases hf
  exact w_iret dX35_badness_64 rfl rfl rfl
def fX35_badness_b90 (s0 : Int32) (h : eH) : Option (Int32 × eH) :=
  some (s0, h)
theorem pX35_badness_b90 {w : eW} {d : Nat} (hd : 1 ≤ d + 1) {s0 : Int32} {h : eH} {q} (hf : fX35_badness_b90 s0 h = some q) : wp w (d + 1) YX35_badness 90 [none, none, none] [.int s0] h (e_is (e_rn c_I q)) := by
  unfold fX35_badness_b90 at hf
  cases hf
  exact w_iret dX35_badness_90 rfl rfl rfl
def fX35_badness (this : Nat) (h : eH) : Option (Int32 × eH) :=
  (g_I 34 h this 98).bind fun x1 =>
  (g_J 34 h this 79).bind fun x3 =>
  if ¬ (lg_cmp ((x1).toInt64 - x3) (0 : Int64)) = 0 then
    if (lg_cmp ((x1).toInt64 - x3) (0 : Int64)) ≤ 0 then
      (g_J 34 h this 85).bind fun x7 =>
      if (lg_cmp (-((x1).toInt64 - x3)) x7) ≤ 0 then
        (g_J 34 h this 85).bind fun x10 =>
        (fX35_bad (-((x1).toInt64 - x3)) x10 h).bind fun q12 =>
        fX35_badness_b90 q12.1 q12.2
      else
        fX35_badness_b90 (1073741823 : Int32) h
    else
      (g_A 34 h this 83).bind fun a13 =>
      (r_J h a13 (1 : Int32)).bind fun x15 =>
      (g_A 34 h this 83).bind fun a17 =>
      (r_J h a17 (2 : Int32)).bind fun x19 =>
      (g_A 34 h this 83).bind fun a21 =>
      (r_J h a21 (3 : Int32)).bind fun x23 =>
      if (lg_cmp ((x15 + x19) + x23) (0 : Int64)) ≤ 0 then
        (g_A 34 h this 83).bind fun a26 =>
        (r_J h a26 (0 : Int32)).bind fun x28 =>
        (fX35_bad ((x1).toInt64 - x3) x28 h).bind fun q30 =>
        fX35_badness_b64 q30.1 q30.2
      else
        fX35_badness_b64 (0 : Int32) h
  else
    some ((0 : Int32), h)
theorem pX35_badness {w : eW} {d : Nat} (hd : 1 ≤ d) {this : Nat} {h : eH} {q} (hf : fX35_badness this h = some q) : wm w d YX35_badness [.ref this] h (e_is (e_rn c_I q)) := by
  obtain ⟨d, rfl⟩ : ∃ e, d = e + 1 := ⟨d - 1, by omega⟩
  show wp w (d + 1) YX35_badness 0 [some (.ref this), none, none] [] h _
  unfold fX35_badness at hf
  refine w_aload_n dX35_badness_0 rfl rfl ?_
  obtain ⟨x1, b2, hf⟩ := Option.bind_eq_some_iff.mp hf
  refine GX35_1049 b2 dX35_badness_1 rfl ?_
  refine w_i2l dX35_badness_4 ?_
  refine w_aload_n dX35_badness_5 rfl rfl ?_
  obtain ⟨x3, b4, hf⟩ := Option.bind_eq_some_iff.mp hf
  refine GX35_952 b4 dX35_badness_6 rfl ?_
  refine w_lsub dX35_badness_9 ?_
  refine w_lstore_n dX35_badness_10 rfl (by decide) (ls' := [some (.ref this), some (.long ((x1).toInt64 - x3)), none]) rfl ?_
  refine w_lload_n dX35_badness_11 rfl rfl ?_
  refine w_lconst dX35_badness_12 (v := 0) (by decide) ?_
  refine w_lcmp dX35_badness_13 ?_
  refine w_if_ne 19 dX35_badness_14 (by decide) (fun c5 => ?_) (fun c5 => ?_)
  · replace hf := (if_pos (show ¬ (lg_cmp ((x1).toInt64 - x3) (0 : Int64)) = 0 from c5)).symm.trans hf
    refine w_lload_n dX35_badness_19 rfl rfl ?_
    refine w_lconst dX35_badness_20 (v := 0) (by decide) ?_
    refine w_lcmp dX35_badness_21 ?_
    refine w_if_le 65 dX35_badness_22 (by decide) (fun c6 => ?_) (fun c6 => ?_)
    · replace hf := (if_pos (show (lg_cmp ((x1).toInt64 - x3) (0 : Int64)) ≤ 0 from c6)).symm.trans hf
      refine w_lload_n dX35_badness_65 rfl rfl ?_
      refine w_lneg dX35_badness_66 ?_
      refine w_aload_n dX35_badness_67 rfl rfl ?_
      obtain ⟨x7, b8, hf⟩ := Option.bind_eq_some_iff.mp hf
      refine GX35_966 b8 dX35_badness_68 rfl ?_
      refine w_lcmp dX35_badness_71 ?_
      refine w_if_le 81 dX35_badness_72 (by decide) (fun c9 => ?_) (fun c9 => ?_)
      · replace hf := (if_pos (show (lg_cmp (-((x1).toInt64 - x3)) x7) ≤ 0 from c9)).symm.trans hf
        refine w_lload_n dX35_badness_81 rfl rfl ?_
        refine w_lneg dX35_badness_82 ?_
        refine w_aload_n dX35_badness_83 rfl rfl ?_
        obtain ⟨x10, b11, hf⟩ := Option.bind_eq_some_iff.mp hf
        refine GX35_966 b11 dX35_badness_84 rfl ?_
        refine x_cnI hf (e_stS (Yc := YX35_bad) (av := [.long (-((x1).toInt64 - x3)), .long x10]) (st := []) dX35_badness_87 q5505 mX35_bad) mX35_bad.2.2.1 mX35_bad.2.2.2.2.1 (Nat.le_of_ble_eq_true rfl) (Nat.le_of_ble_eq_true rfl) (fun q hq => pX35_bad (by omega) hq) (fun q12 hf => ?_)
        exact (pX35_badness_b90 hd hf).to trivial
      · replace hf := (if_neg (show ¬ ((lg_cmp (-((x1).toInt64 - x3)) x7) ≤ 0) from c9)).symm.trans hf
        refine w_ldc_w dX35_badness_75 q4479 ?_
        refine w_goto 90 dX35_badness_78 (by decide) ?_
        exact (pX35_badness_b90 hd hf).to trivial
    · replace hf := (if_neg (show ¬ ((lg_cmp ((x1).toInt64 - x3) (0 : Int64)) ≤ 0) from c6)).symm.trans hf
      refine w_aload_n dX35_badness_25 rfl rfl ?_
      obtain ⟨a13, b14, hf⟩ := Option.bind_eq_some_iff.mp hf
      refine GX35_188 b14 dX35_badness_26 rfl ?_
      refine w_iconst dX35_badness_29 (v := 1) (by decide) ?_
      obtain ⟨x15, b16, hf⟩ := Option.bind_eq_some_iff.mp hf
      refine x_rJ b16 dX35_badness_30 ?_
      refine w_aload_n dX35_badness_31 rfl rfl ?_
      obtain ⟨a17, b18, hf⟩ := Option.bind_eq_some_iff.mp hf
      refine GX35_188 b18 dX35_badness_32 rfl ?_
      refine w_iconst dX35_badness_35 (v := 2) (by decide) ?_
      obtain ⟨x19, b20, hf⟩ := Option.bind_eq_some_iff.mp hf
      refine x_rJ b20 dX35_badness_36 ?_
      refine w_ladd dX35_badness_37 ?_
      refine w_aload_n dX35_badness_38 rfl rfl ?_
      obtain ⟨a21, b22, hf⟩ := Option.bind_eq_some_iff.mp hf
      refine GX35_188 b22 dX35_badness_39 rfl ?_
      refine w_iconst dX35_badness_42 (v := 3) (by decide) ?_
      obtain ⟨x23, b24, hf⟩ := Option.bind_eq_some_iff.mp hf
      refine x_rJ b24 dX35_badness_43 ?_
      refine w_ladd dX35_badness_44 ?_
      refine w_lconst dX35_badness_45 (v := 0) (by decide) ?_
      refine w_lcmp dX35_badness_46 ?_
      refine w_if_le 54 dX35_badness_47 (by decide) (fun c25 => ?_) (fun c25 => ?_)
      · replace hf := (if_pos (show (lg_cmp ((x15 + x19) + x23) (0 : Int64)) ≤ 0 from c25)).symm.trans hf
        refine w_lload_n dX35_badness_54 rfl rfl ?_
        refine w_aload_n dX35_badness_55 rfl rfl ?_
        obtain ⟨a26, b27, hf⟩ := Option.bind_eq_some_iff.mp hf
        refine GX35_188 b27 dX35_badness_56 rfl ?_
        refine w_iconst dX35_badness_59 (v := 0) (by decide) ?_
        obtain ⟨x28, b29, hf⟩ := Option.bind_eq_some_iff.mp hf
        refine x_rJ b29 dX35_badness_60 ?_
        refine x_cnI hf (e_stS (Yc := YX35_bad) (av := [.long ((x1).toInt64 - x3), .long x28]) (st := []) dX35_badness_61 q5505 mX35_bad) mX35_bad.2.2.1 mX35_bad.2.2.2.2.1 (Nat.le_of_ble_eq_true rfl) (Nat.le_of_ble_eq_true rfl) (fun q hq => pX35_bad (by omega) hq) (fun q30 hf => ?_)
        exact (pX35_badness_b64 hd hf).to trivial
      · replace hf := (if_neg (show ¬ ((lg_cmp ((x15 + x19) + x23) (0 : Int64)) ≤ 0) from c25)).symm.trans hf
        refine w_iconst dX35_badness_50 (v := 0) (by decide) ?_
        refine w_goto 64 dX35_badness_51 (by decide) ?_
        exact (pX35_badness_b64 hd hf).to trivial
  · replace hf := (if_neg (show ¬ (¬ (lg_cmp ((x1).toInt64 - x3) (0 : Int64)) = 0) from (fun z => z c5))).symm.trans hf
    refine w_iconst dX35_badness_17 (v := 0) (by decide) ?_
    cases hf
    exact w_iret dX35_badness_18 rfl rfl rfl
abbrev cX35_bare : ByteArray := prog_37_method_32_code
def yX35_bare : MethodName := ⟨RX35, "bare", "(I)I"⟩
def YX35_bare : eY := (yX35_bare, cX35_bare, 1, (Option.some FieldType.int), [])
theorem mX35_bare : e_ms YX35_bare 1 := ⟨q5140, q466, q5141, by decide, by decide +kernel, (e_sig (by decide +kernel))⟩
theorem dX35_bare_0 : decode cX35_bare 0 = .ok (.iload_n 0, 1) := dc_26 (by decide +kernel)
theorem dX35_bare_1 : decode cX35_bare 1 = .ok (.ldc_w 463, 3) := dc_19 (a := 1) (b := 207) (n := 463) (by decide +kernel)
theorem dX35_bare_4 : decode cX35_bare 4 = .ok (.if_icmp .lt 11, 3) := dc_161 (a := 0) (b := 11) (v := 11) (by decide +kernel)
theorem dX35_bare_7 : decode cX35_bare 7 = .ok (.iload_n 0, 1) := dc_26 (by decide +kernel)
theorem dX35_bare_8 : decode cX35_bare 8 = .ok (.ldc_w 463, 3) := dc_19 (a := 1) (b := 207) (n := 463) (by decide +kernel)
theorem dX35_bare_11 : decode cX35_bare 11 = .ok (.isub, 1) := dc_100 (by decide +kernel)
theorem dX35_bare_12 : decode cX35_bare 12 = .ok (.goto 4, 3) := dc_167 (a := 0) (b := 4) (v := 4) (by decide +kernel)
theorem dX35_bare_15 : decode cX35_bare 15 = .ok (.iload_n 0, 1) := dc_26 (by decide +kernel)
theorem dX35_bare_16 : decode cX35_bare 16 = .ok (.ireturn, 1) := dc_172 (by decide +kernel)
def fX35_bare_b16 (s0 : Int32) (h : eH) : Option (Int32 × eH) :=
  some (s0, h)
theorem pX35_bare_b16 {w : eW} {d : Nat} (hd : 0 ≤ d) {s0 : Int32} {h : eH} {q} (hf : fX35_bare_b16 s0 h = some q) : wp w d YX35_bare 16 [none] [.int s0] h (e_is (e_rn c_I q)) := by
  unfold fX35_bare_b16 at hf
  cases hf
  exact w_iret dX35_bare_16 rfl rfl rfl
def fX35_bare (p0 : Int32) (h : eH) : Option (Int32 × eH) :=
  if p0 < (524288 : Int32) then
    fX35_bare_b16 p0 h
  else
    fX35_bare_b16 (p0 - (524288 : Int32)) h
theorem pX35_bare {w : eW} {d : Nat} (hd : 0 ≤ d) {p0 : Int32} {h : eH} {q} (hf : fX35_bare p0 h = some q) : wm w d YX35_bare [.int p0] h (e_is (e_rn c_I q)) := by
  show wp w d YX35_bare 0 [some (.int p0)] [] h _
  unfold fX35_bare at hf
  refine w_iload_n dX35_bare_0 rfl rfl ?_
  refine w_ldc_w dX35_bare_1 q5126 ?_
  refine w_icmp_lt 15 dX35_bare_4 (by decide) (fun c1 => ?_) (fun c1 => ?_)
  · replace hf := (if_pos (show p0 < (524288 : Int32) from c1)).symm.trans hf
    refine w_iload_n dX35_bare_15 rfl rfl ?_
    exact (pX35_bare_b16 hd hf).to trivial
  · replace hf := (if_neg (show ¬ (p0 < (524288 : Int32)) from c1)).symm.trans hf
    refine w_iload_n dX35_bare_7 rfl rfl ?_
    refine w_ldc_w dX35_bare_8 q5126 ?_
    refine w_isub dX35_bare_11 ?_
    refine w_goto 16 dX35_bare_12 (by decide) ?_
    exact (pX35_bare_b16 hd hf).to trivial
abbrev cX35_isCharacter : ByteArray := prog_37_method_28_code
def yX35_isCharacter : MethodName := ⟨RX35, "isCharacter", "(I)Z"⟩
def YX35_isCharacter : eY := (yX35_isCharacter, cX35_isCharacter, 1, (Option.some FieldType.boolean), [])
theorem mX35_isCharacter : e_ms YX35_isCharacter 1 := ⟨q5128, q466, q5129, by decide, by decide +kernel, (e_sig (by decide +kernel))⟩
theorem dX35_isCharacter_0 : decode cX35_isCharacter 0 = .ok (.iload_n 0, 1) := dc_26 (by decide +kernel)
theorem dX35_isCharacter_1 : decode cX35_isCharacter 1 = .ok (.ifCond .lt 13, 3) := dc_155 (a := 0) (b := 13) (v := 13) (by decide +kernel)
theorem dX35_isCharacter_4 : decode cX35_isCharacter 4 = .ok (.iload_n 0, 1) := dc_26 (by decide +kernel)
theorem dX35_isCharacter_5 : decode cX35_isCharacter 5 = .ok (.ldc 7, 2) := dc_18 (a := 7) (by decide +kernel)
theorem dX35_isCharacter_7 : decode cX35_isCharacter 7 = .ok (.if_icmp .ge 7, 3) := dc_162 (a := 0) (b := 7) (v := 7) (by decide +kernel)
theorem dX35_isCharacter_10 : decode cX35_isCharacter 10 = .ok (.iconst 1, 1) := dc_4 (by decide +kernel)
theorem dX35_isCharacter_11 : decode cX35_isCharacter 11 = .ok (.goto 4, 3) := dc_167 (a := 0) (b := 4) (v := 4) (by decide +kernel)
theorem dX35_isCharacter_14 : decode cX35_isCharacter 14 = .ok (.iconst 0, 1) := dc_3 (by decide +kernel)
theorem dX35_isCharacter_15 : decode cX35_isCharacter 15 = .ok (.ireturn, 1) := dc_172 (by decide +kernel)
def fX35_isCharacter_b15 (s0 : Int32) (h : eH) : Option (Int32 × eH) :=
  z_r s0 (s0, h)
theorem pX35_isCharacter_b15 {w : eW} {d : Nat} (hd : 0 ≤ d) {s0 : Int32} {h : eH} {q} (hf : fX35_isCharacter_b15 s0 h = some q) : wp w d YX35_isCharacter 15 [none] [.int s0] h (e_is (e_rn c_I q)) := by
  unfold fX35_isCharacter_b15 at hf
  obtain ⟨b1, rfl⟩ := z_r_some hf
  exact w_iret dX35_isCharacter_15 rfl b1 rfl
def fX35_isCharacter_b14  (h : eH) : Option (Int32 × eH) :=
  fX35_isCharacter_b15 (0 : Int32) h
theorem pX35_isCharacter_b14 {w : eW} {d : Nat} (hd : 0 ≤ d)  {h : eH} {q} (hf : fX35_isCharacter_b14  h = some q) : wp w d YX35_isCharacter 14 [none] [] h (e_is (e_rn c_I q)) := by
  unfold fX35_isCharacter_b14 at hf
  refine w_iconst dX35_isCharacter_14 (v := 0) (by decide) ?_
  exact (pX35_isCharacter_b15 hd hf).to trivial
def fX35_isCharacter (p0 : Int32) (h : eH) : Option (Int32 × eH) :=
  if p0 < 0 then
    fX35_isCharacter_b14 h
  else
    if (65536 : Int32) ≤ p0 then
      fX35_isCharacter_b14 h
    else
      fX35_isCharacter_b15 (1 : Int32) h
theorem pX35_isCharacter {w : eW} {d : Nat} (hd : 0 ≤ d) {p0 : Int32} {h : eH} {q} (hf : fX35_isCharacter p0 h = some q) : wm w d YX35_isCharacter [.int p0] h (e_is (e_rn c_I q)) := by
  show wp w d YX35_isCharacter 0 [some (.int p0)] [] h _
  unfold fX35_isCharacter at hf
  refine w_iload_n dX35_isCharacter_0 rfl rfl ?_
  refine w_if_lt 14 dX35_isCharacter_1 (by decide) (fun c1 => ?_) (fun c1 => ?_)
  · replace hf := (if_pos (show p0 < 0 from c1)).symm.trans hf
    exact (pX35_isCharacter_b14 hd hf).to trivial
  · replace hf := (if_neg (show ¬ (p0 < 0) from c1)).symm.trans hf
    refine w_iload_n dX35_isCharacter_4 rfl rfl ?_
    refine w_ldc dX35_isCharacter_5 q4119 ?_
    refine w_icmp_ge 14 dX35_isCharacter_7 (by decide) (fun c2 => ?_) (fun c2 => ?_)
    · replace hf := (if_pos (show (65536 : Int32) ≤ p0 from c2)).symm.trans hf
      exact (pX35_isCharacter_b14 hd hf).to trivial
    · replace hf := (if_neg (show ¬ ((65536 : Int32) ≤ p0) from c2)).symm.trans hf
      refine w_iconst dX35_isCharacter_10 (v := 1) (by decide) ?_
      refine w_goto 15 dX35_isCharacter_11 (by decide) ?_
      exact (pX35_isCharacter_b15 hd hf).to trivial
abbrev cX35_isOf : ByteArray := prog_37_method_30_code
def yX35_isOf : MethodName := ⟨RX35, "isOf", "(II)Z"⟩
def YX35_isOf : eY := (yX35_isOf, cX35_isOf, 2, (Option.some FieldType.boolean), [])
theorem mX35_isOf : e_ms YX35_isOf 2 := ⟨q5167, q466, q5168, by decide, by decide +kernel, (e_sig (by decide +kernel))⟩
theorem dX35_isOf_0 : decode cX35_isOf 0 = .ok (.iload_n 0, 1) := dc_26 (by decide +kernel)
theorem dX35_isOf_1 : decode cX35_isOf 1 = .ok (.invokestatic 459, 3) := dc_184 (a := 1) (b := 203) (n := 459) (by decide +kernel)
theorem dX35_isOf_4 : decode cX35_isOf 4 = .ok (.ifCond .eq 16, 3) := dc_153 (a := 0) (b := 16) (v := 16) (by decide +kernel)
theorem dX35_isOf_7 : decode cX35_isOf 7 = .ok (.iload_n 0, 1) := dc_26 (by decide +kernel)
theorem dX35_isOf_8 : decode cX35_isOf 8 = .ok (.sipush 256, 3) := dc_17 (a := 1) (b := 0) (v := 256) (by decide +kernel)
theorem dX35_isOf_11 : decode cX35_isOf 11 = .ok (.idiv, 1) := dc_108 (by decide +kernel)
theorem dX35_isOf_12 : decode cX35_isOf 12 = .ok (.iload_n 1, 1) := dc_27 (by decide +kernel)
theorem dX35_isOf_13 : decode cX35_isOf 13 = .ok (.if_icmp .ne 7, 3) := dc_160 (a := 0) (b := 7) (v := 7) (by decide +kernel)
theorem dX35_isOf_16 : decode cX35_isOf 16 = .ok (.iconst 1, 1) := dc_4 (by decide +kernel)
theorem dX35_isOf_17 : decode cX35_isOf 17 = .ok (.goto 4, 3) := dc_167 (a := 0) (b := 4) (v := 4) (by decide +kernel)
theorem dX35_isOf_20 : decode cX35_isOf 20 = .ok (.iconst 0, 1) := dc_3 (by decide +kernel)
theorem dX35_isOf_21 : decode cX35_isOf 21 = .ok (.ireturn, 1) := dc_172 (by decide +kernel)
def fX35_isOf_b21 (s0 : Int32) (h : eH) : Option (Int32 × eH) :=
  z_r s0 (s0, h)
theorem pX35_isOf_b21 {w : eW} {d : Nat} (hd : 1 ≤ d + 1) {s0 : Int32} {h : eH} {q} (hf : fX35_isOf_b21 s0 h = some q) : wp w (d + 1) YX35_isOf 21 [none, none] [.int s0] h (e_is (e_rn c_I q)) := by
  unfold fX35_isOf_b21 at hf
  obtain ⟨b1, rfl⟩ := z_r_some hf
  exact w_iret dX35_isOf_21 rfl b1 rfl
def fX35_isOf_b20  (h : eH) : Option (Int32 × eH) :=
  fX35_isOf_b21 (0 : Int32) h
theorem pX35_isOf_b20 {w : eW} {d : Nat} (hd : 1 ≤ d + 1)  {h : eH} {q} (hf : fX35_isOf_b20  h = some q) : wp w (d + 1) YX35_isOf 20 [none, none] [] h (e_is (e_rn c_I q)) := by
  unfold fX35_isOf_b20 at hf
  refine w_iconst dX35_isOf_20 (v := 0) (by decide) ?_
  exact (pX35_isOf_b21 hd hf).to trivial
def fX35_isOf (p0 : Int32) (p1 : Int32) (h : eH) : Option (Int32 × eH) :=
  (fX35_isCharacter p0 h).bind fun q1 =>
  if q1.1 = 0 then
    fX35_isOf_b20 q1.2
  else
    if ¬ (p0 / (256 : Int32)) = p1 then
      fX35_isOf_b20 q1.2
    else
      fX35_isOf_b21 (1 : Int32) q1.2
theorem pX35_isOf {w : eW} {d : Nat} (hd : 1 ≤ d) {p0 : Int32} {p1 : Int32} {h : eH} {q} (hf : fX35_isOf p0 p1 h = some q) : wm w d YX35_isOf [.int p0, .int p1] h (e_is (e_rn c_I q)) := by
  obtain ⟨d, rfl⟩ : ∃ e, d = e + 1 := ⟨d - 1, by omega⟩
  show wp w (d + 1) YX35_isOf 0 [some (.int p0), some (.int p1)] [] h _
  unfold fX35_isOf at hf
  refine w_iload_n dX35_isOf_0 rfl rfl ?_
  refine x_cnI hf (e_stS (Yc := YX35_isCharacter) (av := [.int p0]) (st := []) dX35_isOf_1 q5127 mX35_isCharacter) mX35_isCharacter.2.2.1 mX35_isCharacter.2.2.2.2.1 (Nat.le_of_ble_eq_true rfl) (Nat.le_of_ble_eq_true rfl) (fun q hq => pX35_isCharacter (by omega) hq) (fun q1 hf => ?_)
  refine w_if_eq 20 dX35_isOf_4 (by decide) (fun c2 => ?_) (fun c2 => ?_)
  · replace hf := (if_pos (show q1.1 = 0 from c2)).symm.trans hf
    exact (pX35_isOf_b20 hd hf).to trivial
  · replace hf := (if_neg (show ¬ (q1.1 = 0) from c2)).symm.trans hf
    refine w_iload_n dX35_isOf_7 rfl rfl ?_
    refine w_sipush dX35_isOf_8 (v := 256) (by decide) ?_
    refine w_idiv dX35_isOf_11 (by decide) ?_
    refine w_iload_n dX35_isOf_12 rfl rfl ?_
    refine w_icmp_ne 20 dX35_isOf_13 (by decide) (fun c3 => ?_) (fun c3 => ?_)
    · replace hf := (if_pos (show ¬ (p0 / (256 : Int32)) = p1 from c3)).symm.trans hf
      exact (pX35_isOf_b20 hd hf).to trivial
    · replace hf := (if_neg (show ¬ (¬ (p0 / (256 : Int32)) = p1) from (fun z => z c3))).symm.trans hf
      refine w_iconst dX35_isOf_16 (v := 1) (by decide) ?_
      refine w_goto 21 dX35_isOf_17 (by decide) ?_
      exact (pX35_isOf_b21 hd hf).to trivial
abbrev cX35_bareOf : ByteArray := prog_37_method_56_code
def yX35_bareOf : MethodName := ⟨RX35, "bareOf", "(I)V"⟩
def YX35_bareOf : eY := (yX35_bareOf, cX35_bareOf, 6, none, [])
theorem mX35_bareOf : e_mv YX35_bareOf RX35 1 := ⟨q5175, qs256, q5176, by decide, by decide +kernel, (e_sig (by decide +kernel))⟩
theorem dX35_bareOf_0 : decode cX35_bareOf 0 = .ok (.aload_n 0, 1) := dc_42 (by decide +kernel)
theorem dX35_bareOf_1 : decode cX35_bareOf 1 = .ok (.getfield 112, 3) := dc_180 (a := 0) (b := 112) (n := 112) (by decide +kernel)
theorem dX35_bareOf_4 : decode cX35_bareOf 4 = .ok (.iload_n 1, 1) := dc_27 (by decide +kernel)
theorem dX35_bareOf_5 : decode cX35_bareOf 5 = .ok (.iaload, 1) := dc_46 (by decide +kernel)
theorem dX35_bareOf_6 : decode cX35_bareOf 6 = .ok (.istore_n 2, 1) := dc_61 (by decide +kernel)
theorem dX35_bareOf_7 : decode cX35_bareOf 7 = .ok (.iload_n 2, 1) := dc_28 (by decide +kernel)
theorem dX35_bareOf_8 : decode cX35_bareOf 8 = .ok (.iconst 2, 1) := dc_5 (by decide +kernel)
theorem dX35_bareOf_9 : decode cX35_bareOf 9 = .ok (.if_icmp .lt 20, 3) := dc_161 (a := 0) (b := 20) (v := 20) (by decide +kernel)
theorem dX35_bareOf_12 : decode cX35_bareOf 12 = .ok (.aload_n 0, 1) := dc_42 (by decide +kernel)
theorem dX35_bareOf_13 : decode cX35_bareOf 13 = .ok (.getfield 109, 3) := dc_180 (a := 0) (b := 109) (n := 109) (by decide +kernel)
theorem dX35_bareOf_16 : decode cX35_bareOf 16 = .ok (.sipush 11000, 3) := dc_17 (a := 42) (b := 248) (v := 11000) (by decide +kernel)
theorem dX35_bareOf_19 : decode cX35_bareOf 19 = .ok (.iload_n 1, 1) := dc_27 (by decide +kernel)
theorem dX35_bareOf_20 : decode cX35_bareOf 20 = .ok (.imul, 1) := dc_104 (by decide +kernel)
theorem dX35_bareOf_21 : decode cX35_bareOf 21 = .ok (.iaload, 1) := dc_46 (by decide +kernel)
theorem dX35_bareOf_22 : decode cX35_bareOf 22 = .ok (.iconst 1, 1) := dc_4 (by decide +kernel)
theorem dX35_bareOf_23 : decode cX35_bareOf 23 = .ok (.invokestatic 493, 3) := dc_184 (a := 1) (b := 237) (n := 493) (by decide +kernel)
theorem dX35_bareOf_26 : decode cX35_bareOf 26 = .ok (.ifCond .ne 4, 3) := dc_154 (a := 0) (b := 4) (v := 4) (by decide +kernel)
theorem dX35_bareOf_29 : decode cX35_bareOf 29 = .ok (.return_, 1) := dc_177 (by decide +kernel)
theorem dX35_bareOf_30 : decode cX35_bareOf 30 = .ok (.iconst 0, 1) := dc_3 (by decide +kernel)
theorem dX35_bareOf_31 : decode cX35_bareOf 31 = .ok (.istore_n 3, 1) := dc_62 (by decide +kernel)
theorem dX35_bareOf_32 : decode cX35_bareOf 32 = .ok (.iconst 0, 1) := dc_3 (by decide +kernel)
theorem dX35_bareOf_33 : decode cX35_bareOf 33 = .ok (.istore 4, 2) := dc_54 (a := 4) (by decide +kernel)
theorem dX35_bareOf_35 : decode cX35_bareOf 35 = .ok (.iload 4, 2) := dc_21 (a := 4) (by decide +kernel)
theorem dX35_bareOf_37 : decode cX35_bareOf 37 = .ok (.iload_n 2, 1) := dc_28 (by decide +kernel)
theorem dX35_bareOf_38 : decode cX35_bareOf 38 = .ok (.if_icmp .ge 69, 3) := dc_162 (a := 0) (b := 69) (v := 69) (by decide +kernel)
theorem dX35_bareOf_41 : decode cX35_bareOf 41 = .ok (.aload_n 0, 1) := dc_42 (by decide +kernel)
theorem dX35_bareOf_42 : decode cX35_bareOf 42 = .ok (.getfield 109, 3) := dc_180 (a := 0) (b := 109) (n := 109) (by decide +kernel)
theorem dX35_bareOf_45 : decode cX35_bareOf 45 = .ok (.sipush 11000, 3) := dc_17 (a := 42) (b := 248) (v := 11000) (by decide +kernel)
theorem dX35_bareOf_48 : decode cX35_bareOf 48 = .ok (.iload_n 1, 1) := dc_27 (by decide +kernel)
theorem dX35_bareOf_49 : decode cX35_bareOf 49 = .ok (.imul, 1) := dc_104 (by decide +kernel)
theorem dX35_bareOf_50 : decode cX35_bareOf 50 = .ok (.iload 4, 2) := dc_21 (a := 4) (by decide +kernel)
theorem dX35_bareOf_52 : decode cX35_bareOf 52 = .ok (.iadd, 1) := dc_96 (by decide +kernel)
theorem dX35_bareOf_53 : decode cX35_bareOf 53 = .ok (.iaload, 1) := dc_46 (by decide +kernel)
theorem dX35_bareOf_54 : decode cX35_bareOf 54 = .ok (.istore 5, 2) := dc_54 (a := 5) (by decide +kernel)
theorem dX35_bareOf_56 : decode cX35_bareOf 56 = .ok (.iload 5, 2) := dc_21 (a := 5) (by decide +kernel)
theorem dX35_bareOf_58 : decode cX35_bareOf 58 = .ok (.iconst 1, 1) := dc_4 (by decide +kernel)
theorem dX35_bareOf_59 : decode cX35_bareOf 59 = .ok (.invokestatic 493, 3) := dc_184 (a := 1) (b := 237) (n := 493) (by decide +kernel)
theorem dX35_bareOf_62 : decode cX35_bareOf 62 = .ok (.ifCond .eq 9, 3) := dc_153 (a := 0) (b := 9) (v := 9) (by decide +kernel)
theorem dX35_bareOf_65 : decode cX35_bareOf 65 = .ok (.iload_n 3, 1) := dc_29 (by decide +kernel)
theorem dX35_bareOf_66 : decode cX35_bareOf 66 = .ok (.iconst 1, 1) := dc_4 (by decide +kernel)
theorem dX35_bareOf_67 : decode cX35_bareOf 67 = .ok (.iadd, 1) := dc_96 (by decide +kernel)
theorem dX35_bareOf_68 : decode cX35_bareOf 68 = .ok (.goto 19, 3) := dc_167 (a := 0) (b := 19) (v := 19) (by decide +kernel)
theorem dX35_bareOf_71 : decode cX35_bareOf 71 = .ok (.iload 5, 2) := dc_21 (a := 5) (by decide +kernel)
theorem dX35_bareOf_73 : decode cX35_bareOf 73 = .ok (.iconst 2, 1) := dc_5 (by decide +kernel)
theorem dX35_bareOf_74 : decode cX35_bareOf 74 = .ok (.invokestatic 493, 3) := dc_184 (a := 1) (b := 237) (n := 493) (by decide +kernel)
theorem dX35_bareOf_77 : decode cX35_bareOf 77 = .ok (.ifCond .eq 9, 3) := dc_153 (a := 0) (b := 9) (v := 9) (by decide +kernel)
theorem dX35_bareOf_80 : decode cX35_bareOf 80 = .ok (.iload_n 3, 1) := dc_29 (by decide +kernel)
theorem dX35_bareOf_81 : decode cX35_bareOf 81 = .ok (.iconst 1, 1) := dc_4 (by decide +kernel)
theorem dX35_bareOf_82 : decode cX35_bareOf 82 = .ok (.isub, 1) := dc_100 (by decide +kernel)
theorem dX35_bareOf_83 : decode cX35_bareOf 83 = .ok (.goto 4, 3) := dc_167 (a := 0) (b := 4) (v := 4) (by decide +kernel)
theorem dX35_bareOf_86 : decode cX35_bareOf 86 = .ok (.iload_n 3, 1) := dc_29 (by decide +kernel)
theorem dX35_bareOf_87 : decode cX35_bareOf 87 = .ok (.istore_n 3, 1) := dc_62 (by decide +kernel)
theorem dX35_bareOf_88 : decode cX35_bareOf 88 = .ok (.iload_n 3, 1) := dc_29 (by decide +kernel)
theorem dX35_bareOf_89 : decode cX35_bareOf 89 = .ok (.ifCond .ne 12, 3) := dc_154 (a := 0) (b := 12) (v := 12) (by decide +kernel)
theorem dX35_bareOf_92 : decode cX35_bareOf 92 = .ok (.iload 4, 2) := dc_21 (a := 4) (by decide +kernel)
theorem dX35_bareOf_94 : decode cX35_bareOf 94 = .ok (.iload_n 2, 1) := dc_28 (by decide +kernel)
theorem dX35_bareOf_95 : decode cX35_bareOf 95 = .ok (.iconst 1, 1) := dc_4 (by decide +kernel)
theorem dX35_bareOf_96 : decode cX35_bareOf 96 = .ok (.isub, 1) := dc_100 (by decide +kernel)
theorem dX35_bareOf_97 : decode cX35_bareOf 97 = .ok (.if_icmp .ge 4, 3) := dc_162 (a := 0) (b := 4) (v := 4) (by decide +kernel)
theorem dX35_bareOf_100 : decode cX35_bareOf 100 = .ok (.return_, 1) := dc_177 (by decide +kernel)
theorem dX35_bareOf_101 : decode cX35_bareOf 101 = .ok (.iinc 4 1, 3) := dc_132 (a := 4) (b := 1) (v := 1) (by decide +kernel)
theorem dX35_bareOf_104 : decode cX35_bareOf 104 = .ok (.goto (-69), 3) := dc_167 (a := 255) (b := 187) (v := -69) (by decide +kernel)
theorem dX35_bareOf_107 : decode cX35_bareOf 107 = .ok (.iconst 0, 1) := dc_3 (by decide +kernel)
theorem dX35_bareOf_108 : decode cX35_bareOf 108 = .ok (.istore 4, 2) := dc_54 (a := 4) (by decide +kernel)
theorem dX35_bareOf_110 : decode cX35_bareOf 110 = .ok (.iload 4, 2) := dc_21 (a := 4) (by decide +kernel)
theorem dX35_bareOf_112 : decode cX35_bareOf 112 = .ok (.iload_n 2, 1) := dc_28 (by decide +kernel)
theorem dX35_bareOf_113 : decode cX35_bareOf 113 = .ok (.iconst 2, 1) := dc_5 (by decide +kernel)
theorem dX35_bareOf_114 : decode cX35_bareOf 114 = .ok (.isub, 1) := dc_100 (by decide +kernel)
theorem dX35_bareOf_115 : decode cX35_bareOf 115 = .ok (.if_icmp .ge 37, 3) := dc_162 (a := 0) (b := 37) (v := 37) (by decide +kernel)
theorem dX35_bareOf_118 : decode cX35_bareOf 118 = .ok (.aload_n 0, 1) := dc_42 (by decide +kernel)
theorem dX35_bareOf_119 : decode cX35_bareOf 119 = .ok (.getfield 109, 3) := dc_180 (a := 0) (b := 109) (n := 109) (by decide +kernel)
theorem dX35_bareOf_122 : decode cX35_bareOf 122 = .ok (.sipush 11000, 3) := dc_17 (a := 42) (b := 248) (v := 11000) (by decide +kernel)
theorem dX35_bareOf_125 : decode cX35_bareOf 125 = .ok (.iload_n 1, 1) := dc_27 (by decide +kernel)
theorem dX35_bareOf_126 : decode cX35_bareOf 126 = .ok (.imul, 1) := dc_104 (by decide +kernel)
theorem dX35_bareOf_127 : decode cX35_bareOf 127 = .ok (.iload 4, 2) := dc_21 (a := 4) (by decide +kernel)
theorem dX35_bareOf_129 : decode cX35_bareOf 129 = .ok (.iadd, 1) := dc_96 (by decide +kernel)
theorem dX35_bareOf_130 : decode cX35_bareOf 130 = .ok (.aload_n 0, 1) := dc_42 (by decide +kernel)
theorem dX35_bareOf_131 : decode cX35_bareOf 131 = .ok (.getfield 109, 3) := dc_180 (a := 0) (b := 109) (n := 109) (by decide +kernel)
theorem dX35_bareOf_134 : decode cX35_bareOf 134 = .ok (.sipush 11000, 3) := dc_17 (a := 42) (b := 248) (v := 11000) (by decide +kernel)
theorem dX35_bareOf_137 : decode cX35_bareOf 137 = .ok (.iload_n 1, 1) := dc_27 (by decide +kernel)
theorem dX35_bareOf_138 : decode cX35_bareOf 138 = .ok (.imul, 1) := dc_104 (by decide +kernel)
theorem dX35_bareOf_139 : decode cX35_bareOf 139 = .ok (.iload 4, 2) := dc_21 (a := 4) (by decide +kernel)
theorem dX35_bareOf_141 : decode cX35_bareOf 141 = .ok (.iadd, 1) := dc_96 (by decide +kernel)
theorem dX35_bareOf_142 : decode cX35_bareOf 142 = .ok (.iconst 1, 1) := dc_4 (by decide +kernel)
theorem dX35_bareOf_143 : decode cX35_bareOf 143 = .ok (.iadd, 1) := dc_96 (by decide +kernel)
theorem dX35_bareOf_144 : decode cX35_bareOf 144 = .ok (.iaload, 1) := dc_46 (by decide +kernel)
theorem dX35_bareOf_145 : decode cX35_bareOf 145 = .ok (.iastore, 1) := dc_79 (by decide +kernel)
theorem dX35_bareOf_146 : decode cX35_bareOf 146 = .ok (.iinc 4 1, 3) := dc_132 (a := 4) (b := 1) (v := 1) (by decide +kernel)
theorem dX35_bareOf_149 : decode cX35_bareOf 149 = .ok (.goto (-39), 3) := dc_167 (a := 255) (b := 217) (v := -39) (by decide +kernel)
theorem dX35_bareOf_152 : decode cX35_bareOf 152 = .ok (.aload_n 0, 1) := dc_42 (by decide +kernel)
theorem dX35_bareOf_153 : decode cX35_bareOf 153 = .ok (.getfield 112, 3) := dc_180 (a := 0) (b := 112) (n := 112) (by decide +kernel)
theorem dX35_bareOf_156 : decode cX35_bareOf 156 = .ok (.iload_n 1, 1) := dc_27 (by decide +kernel)
theorem dX35_bareOf_157 : decode cX35_bareOf 157 = .ok (.iload_n 2, 1) := dc_28 (by decide +kernel)
theorem dX35_bareOf_158 : decode cX35_bareOf 158 = .ok (.iconst 2, 1) := dc_5 (by decide +kernel)
theorem dX35_bareOf_159 : decode cX35_bareOf 159 = .ok (.isub, 1) := dc_100 (by decide +kernel)
theorem dX35_bareOf_160 : decode cX35_bareOf 160 = .ok (.iastore, 1) := dc_79 (by decide +kernel)
theorem dX35_bareOf_161 : decode cX35_bareOf 161 = .ok (.return_, 1) := dc_177 (by decide +kernel)
theorem GX35_109 {w : eW} {d : Nat} {Y : eY} {pc : Nat} {ls : eL} {st : List Value} {h : eH} {Q : eO → eH → Prop} {a : Nat} {x : Nat} (hf : g_A 34 h a 39 = some x) (hd : decode Y.2.1 pc = .ok (.getfield 109, 3)) (hY : Y.1.cls = RX35) (kk : wp w d Y (pc + 3) ls (.ref x :: st) h Q) : wp w d Y pc ls (.ref a :: st) h Q := x_gA (ci := 34) (k := 39) hf hd rfl (by decide) (by rw [hY]; exact q4541) kk
theorem GX35_112 {w : eW} {d : Nat} {Y : eY} {pc : Nat} {ls : eL} {st : List Value} {h : eH} {Q : eO → eH → Prop} {a : Nat} {x : Nat} (hf : g_A 34 h a 40 = some x) (hd : decode Y.2.1 pc = .ok (.getfield 112, 3)) (hY : Y.1.cls = RX35) (kk : wp w d Y (pc + 3) ls (.ref x :: st) h Q) : wp w d Y pc ls (.ref a :: st) h Q := x_gA (ci := 34) (k := 40) hf hd rfl (by decide) (by rw [hY]; exact q4542) kk
def fX35_bareOf_b29 (N : Nat)  (h : eH) : Option (Unit × eH) :=
  some ((), h)
theorem pX35_bareOf_b29 {w : eW} {d : Nat} (hd : 2 ≤ d + 1) {N : Nat}  {h : eH} {q} (hf : fX35_bareOf_b29 N h = some q) : wp w (d + 1) YX35_bareOf 29 [none, none, none, none, none, none] [] h (e_is (e_rn c_V q)) := by
  unfold fX35_bareOf_b29 at hf
  cases hf
  exact w_vret dX35_bareOf_29 rfl rfl
def fX35_bareOf_b101 (N : Nat) (k35 : Nat → Int32 → Int32 → Int32 → Int32 → eH → Option (Unit × eH)) (l0 : Nat) (l1 : Int32) (l2 : Int32) (l3 : Int32) (l4 : Int32) (h : eH) : Option (Unit × eH) :=
  k35 l0 l1 l2 l3 (l4 + (1 : Int32)) h
theorem pX35_bareOf_b101 {w : eW} {d : Nat} (hd : 2 ≤ d + 1) {N : Nat} {k35 : Nat → Int32 → Int32 → Int32 → Int32 → eH → Option (Unit × eH)} (hk35 : ∀ l0 l1 l2 l3 l4 h q, k35 l0 l1 l2 l3 l4 h = some q → wp w (d + 1) YX35_bareOf 35 [some (.ref l0), some (.int l1), some (.int l2), some (.int l3), some (.int l4), none] [] h (e_is (e_rn c_V q))) {l0 : Nat} {l1 : Int32} {l2 : Int32} {l3 : Int32} {l4 : Int32} {h : eH} {q} (hf : fX35_bareOf_b101 N k35 l0 l1 l2 l3 l4 h = some q) : wp w (d + 1) YX35_bareOf 101 [some (.ref l0), some (.int l1), some (.int l2), some (.int l3), some (.int l4), none] [] h (e_is (e_rn c_V q)) := by
  unfold fX35_bareOf_b101 at hf
  refine w_iinc dX35_bareOf_101 (v := (l4 + (1 : Int32))) rfl rfl (by decide) (ls' := [some (.ref l0), some (.int l1), some (.int l2), some (.int l3), some (.int (l4 + (1 : Int32))), none]) rfl ?_
  refine w_goto 35 dX35_bareOf_104 (by decide) ?_
  exact (hk35 _ _ _ _ _ _ _ hf).to ⟨rfl, rfl, rfl, rfl, rfl, trivial⟩
def fX35_bareOf_b87 (N : Nat) (k35 : Nat → Int32 → Int32 → Int32 → Int32 → eH → Option (Unit × eH)) (l0 : Nat) (l1 : Int32) (l2 : Int32) (l4 : Int32) (s0 : Int32) (h : eH) : Option (Unit × eH) :=
  if ¬ s0 = 0 then
    fX35_bareOf_b101 N k35 l0 l1 l2 s0 l4 h
  else
    if (l2 - (1 : Int32)) ≤ l4 then
      fX35_bareOf_b101 N k35 l0 l1 l2 s0 l4 h
    else
      some ((), h)
theorem pX35_bareOf_b87 {w : eW} {d : Nat} (hd : 2 ≤ d + 1) {N : Nat} {k35 : Nat → Int32 → Int32 → Int32 → Int32 → eH → Option (Unit × eH)} (hk35 : ∀ l0 l1 l2 l3 l4 h q, k35 l0 l1 l2 l3 l4 h = some q → wp w (d + 1) YX35_bareOf 35 [some (.ref l0), some (.int l1), some (.int l2), some (.int l3), some (.int l4), none] [] h (e_is (e_rn c_V q))) {l0 : Nat} {l1 : Int32} {l2 : Int32} {l4 : Int32} {s0 : Int32} {h : eH} {q} (hf : fX35_bareOf_b87 N k35 l0 l1 l2 l4 s0 h = some q) : wp w (d + 1) YX35_bareOf 87 [some (.ref l0), some (.int l1), some (.int l2), none, some (.int l4), none] [.int s0] h (e_is (e_rn c_V q)) := by
  unfold fX35_bareOf_b87 at hf
  refine w_istore_n dX35_bareOf_87 rfl (by decide) (ls' := [some (.ref l0), some (.int l1), some (.int l2), some (.int s0), some (.int l4), none]) rfl ?_
  refine w_iload_n dX35_bareOf_88 rfl rfl ?_
  refine w_if_ne 101 dX35_bareOf_89 (by decide) (fun c1 => ?_) (fun c1 => ?_)
  · replace hf := (if_pos (show ¬ s0 = 0 from c1)).symm.trans hf
    exact (pX35_bareOf_b101 hd hk35 hf).to ⟨rfl, rfl, rfl, rfl, rfl, trivial⟩
  · replace hf := (if_neg (show ¬ (¬ s0 = 0) from (fun z => z c1))).symm.trans hf
    refine w_iload dX35_bareOf_92 rfl ?_
    refine w_iload_n dX35_bareOf_94 rfl rfl ?_
    refine w_iconst dX35_bareOf_95 (v := 1) (by decide) ?_
    refine w_isub dX35_bareOf_96 ?_
    refine w_icmp_ge 101 dX35_bareOf_97 (by decide) (fun c2 => ?_) (fun c2 => ?_)
    · replace hf := (if_pos (show (l2 - (1 : Int32)) ≤ l4 from c2)).symm.trans hf
      exact (pX35_bareOf_b101 hd hk35 hf).to ⟨rfl, rfl, rfl, rfl, rfl, trivial⟩
    · replace hf := (if_neg (show ¬ ((l2 - (1 : Int32)) ≤ l4) from c2)).symm.trans hf
      cases hf
      exact w_vret dX35_bareOf_100 rfl rfl
def fX35_bareOf_b110 (N : Nat) : Nat → Nat → Int32 → Int32 → Int32 → eH → Option (Unit × eH)
  | 0, _, _, _, _, _ => none
  | n + 1, l0, l1, l2, l4, h =>
    if (l2 - (2 : Int32)) ≤ l4 then
      (g_A 34 h l0 40).bind fun a2 =>
      (q_V 100 h a2 l1 (.int (l2 - (2 : Int32)))).bind fun h4 =>
      some ((), h4)
    else
      (g_A 34 h l0 39).bind fun a6 =>
      (g_A 34 h l0 39).bind fun a8 =>
      (r_I 100 h a8 ((((11000 : Int32) * l1) + l4) + (1 : Int32))).bind fun x10 =>
      (q_V 100 h a6 (((11000 : Int32) * l1) + l4) (.int x10)).bind fun h12 =>
      fX35_bareOf_b110 N n l0 l1 l2 (l4 + (1 : Int32)) h12
theorem pX35_bareOf_b110 {w : eW} {d : Nat} (hd : 2 ≤ d + 1) {N : Nat} : ∀ (n : Nat) l0 l1 l2 l4 h q, fX35_bareOf_b110 N n l0 l1 l2 l4 h = some q → wp w (d + 1) YX35_bareOf 110 [some (.ref l0), some (.int l1), some (.int l2), none, some (.int l4), none] [] h (e_is (e_rn c_V q)) := by
  intro n
  induction n with
  | zero => intro l0 l1 l2 l4 h q hf; simp [fX35_bareOf_b110] at hf
  | succ n ih =>
    intro l0 l1 l2 l4 h q hf
    rw [fX35_bareOf_b110] at hf
    refine w_iload dX35_bareOf_110 rfl ?_
    refine w_iload_n dX35_bareOf_112 rfl rfl ?_
    refine w_iconst dX35_bareOf_113 (v := 2) (by decide) ?_
    refine w_isub dX35_bareOf_114 ?_
    refine w_icmp_ge 152 dX35_bareOf_115 (by decide) (fun c1 => ?_) (fun c1 => ?_)
    · replace hf := (if_pos (show (l2 - (2 : Int32)) ≤ l4 from c1)).symm.trans hf
      refine w_aload_n dX35_bareOf_152 rfl rfl ?_
      obtain ⟨a2, b3, hf⟩ := Option.bind_eq_some_iff.mp hf
      refine GX35_112 b3 dX35_bareOf_153 rfl ?_
      refine w_iload_n dX35_bareOf_156 rfl rfl ?_
      refine w_iload_n dX35_bareOf_157 rfl rfl ?_
      refine w_iconst dX35_bareOf_158 (v := 2) (by decide) ?_
      refine w_isub dX35_bareOf_159 ?_
      obtain ⟨h4, b5, hf⟩ := Option.bind_eq_some_iff.mp hf
      refine x_qI b5 dX35_bareOf_160 ?_
      cases hf
      exact w_vret dX35_bareOf_161 rfl rfl
    · replace hf := (if_neg (show ¬ ((l2 - (2 : Int32)) ≤ l4) from c1)).symm.trans hf
      refine w_aload_n dX35_bareOf_118 rfl rfl ?_
      obtain ⟨a6, b7, hf⟩ := Option.bind_eq_some_iff.mp hf
      refine GX35_109 b7 dX35_bareOf_119 rfl ?_
      refine w_sipush dX35_bareOf_122 (v := 11000) (by decide) ?_
      refine w_iload_n dX35_bareOf_125 rfl rfl ?_
      refine w_imul dX35_bareOf_126 ?_
      refine w_iload dX35_bareOf_127 rfl ?_
      refine w_iadd dX35_bareOf_129 ?_
      refine w_aload_n dX35_bareOf_130 rfl rfl ?_
      obtain ⟨a8, b9, hf⟩ := Option.bind_eq_some_iff.mp hf
      refine GX35_109 b9 dX35_bareOf_131 rfl ?_
      refine w_sipush dX35_bareOf_134 (v := 11000) (by decide) ?_
      refine w_iload_n dX35_bareOf_137 rfl rfl ?_
      refine w_imul dX35_bareOf_138 ?_
      refine w_iload dX35_bareOf_139 rfl ?_
      refine w_iadd dX35_bareOf_141 ?_
      refine w_iconst dX35_bareOf_142 (v := 1) (by decide) ?_
      refine w_iadd dX35_bareOf_143 ?_
      obtain ⟨x10, b11, hf⟩ := Option.bind_eq_some_iff.mp hf
      refine x_rI b11 dX35_bareOf_144 ?_
      obtain ⟨h12, b13, hf⟩ := Option.bind_eq_some_iff.mp hf
      refine x_qI b13 dX35_bareOf_145 ?_
      refine w_iinc dX35_bareOf_146 (v := (l4 + (1 : Int32))) rfl rfl (by decide) (ls' := [some (.ref l0), some (.int l1), some (.int l2), none, some (.int (l4 + (1 : Int32))), none]) rfl ?_
      refine w_goto 110 dX35_bareOf_149 (by decide) ?_
      exact (ih _ _ _ _ _ _ hf).to ⟨rfl, rfl, rfl, rfl, trivial⟩
def fX35_bareOf_b35 (N : Nat) : Nat → Nat → Int32 → Int32 → Int32 → Int32 → eH → Option (Unit × eH)
  | 0, _, _, _, _, _, _ => none
  | n + 1, l0, l1, l2, l3, l4, h =>
    if l2 ≤ l4 then
      fX35_bareOf_b110 N N l0 l1 l2 (0 : Int32) h
    else
      (g_A 34 h l0 39).bind fun a2 =>
      (r_I 100 h a2 (((11000 : Int32) * l1) + l4)).bind fun x4 =>
      (fX35_isOf x4 (1 : Int32) h).bind fun q6 =>
      if q6.1 = 0 then
        (fX35_isOf x4 (2 : Int32) q6.2).bind fun q8 =>
        if q8.1 = 0 then
          fX35_bareOf_b87 N (fX35_bareOf_b35 N n) l0 l1 l2 l4 l3 q8.2
        else
          fX35_bareOf_b87 N (fX35_bareOf_b35 N n) l0 l1 l2 l4 (l3 - (1 : Int32)) q8.2
      else
        fX35_bareOf_b87 N (fX35_bareOf_b35 N n) l0 l1 l2 l4 (l3 + (1 : Int32)) q6.2
theorem pX35_bareOf_b35 {w : eW} {d : Nat} (hd : 2 ≤ d + 1) {N : Nat} : ∀ (n : Nat) l0 l1 l2 l3 l4 h q, fX35_bareOf_b35 N n l0 l1 l2 l3 l4 h = some q → wp w (d + 1) YX35_bareOf 35 [some (.ref l0), some (.int l1), some (.int l2), some (.int l3), some (.int l4), none] [] h (e_is (e_rn c_V q)) := by
  intro n
  induction n with
  | zero => intro l0 l1 l2 l3 l4 h q hf; simp [fX35_bareOf_b35] at hf
  | succ n ih =>
    intro l0 l1 l2 l3 l4 h q hf
    rw [fX35_bareOf_b35] at hf
    refine w_iload dX35_bareOf_35 rfl ?_
    refine w_iload_n dX35_bareOf_37 rfl rfl ?_
    refine w_icmp_ge 107 dX35_bareOf_38 (by decide) (fun c1 => ?_) (fun c1 => ?_)
    · replace hf := (if_pos (show l2 ≤ l4 from c1)).symm.trans hf
      refine w_iconst dX35_bareOf_107 (v := 0) (by decide) ?_
      refine w_istore dX35_bareOf_108 (by decide) (ls' := [some (.ref l0), some (.int l1), some (.int l2), some (.int l3), some (.int (0 : Int32)), none]) rfl ?_
      exact (pX35_bareOf_b110 hd N _ _ _ _ _ _ hf).to ⟨rfl, rfl, rfl, rfl, trivial⟩
    · replace hf := (if_neg (show ¬ (l2 ≤ l4) from c1)).symm.trans hf
      refine w_aload_n dX35_bareOf_41 rfl rfl ?_
      obtain ⟨a2, b3, hf⟩ := Option.bind_eq_some_iff.mp hf
      refine GX35_109 b3 dX35_bareOf_42 rfl ?_
      refine w_sipush dX35_bareOf_45 (v := 11000) (by decide) ?_
      refine w_iload_n dX35_bareOf_48 rfl rfl ?_
      refine w_imul dX35_bareOf_49 ?_
      refine w_iload dX35_bareOf_50 rfl ?_
      refine w_iadd dX35_bareOf_52 ?_
      obtain ⟨x4, b5, hf⟩ := Option.bind_eq_some_iff.mp hf
      refine x_rI b5 dX35_bareOf_53 ?_
      refine w_istore dX35_bareOf_54 (by decide) (ls' := [some (.ref l0), some (.int l1), some (.int l2), some (.int l3), some (.int l4), some (.int x4)]) rfl ?_
      refine w_iload dX35_bareOf_56 rfl ?_
      refine w_iconst dX35_bareOf_58 (v := 1) (by decide) ?_
      refine x_cnI hf (e_stS (Yc := YX35_isOf) (av := [.int x4, .int (1 : Int32)]) (st := []) dX35_bareOf_59 q5166 mX35_isOf) mX35_isOf.2.2.1 mX35_isOf.2.2.2.2.1 (Nat.le_of_ble_eq_true rfl) (Nat.le_of_ble_eq_true rfl) (fun q hq => pX35_isOf (by omega) hq) (fun q6 hf => ?_)
      refine w_if_eq 71 dX35_bareOf_62 (by decide) (fun c7 => ?_) (fun c7 => ?_)
      · replace hf := (if_pos (show q6.1 = 0 from c7)).symm.trans hf
        refine w_iload dX35_bareOf_71 rfl ?_
        refine w_iconst dX35_bareOf_73 (v := 2) (by decide) ?_
        refine x_cnI hf (e_stS (Yc := YX35_isOf) (av := [.int x4, .int (2 : Int32)]) (st := []) dX35_bareOf_74 q5166 mX35_isOf) mX35_isOf.2.2.1 mX35_isOf.2.2.2.2.1 (Nat.le_of_ble_eq_true rfl) (Nat.le_of_ble_eq_true rfl) (fun q hq => pX35_isOf (by omega) hq) (fun q8 hf => ?_)
        refine w_if_eq 86 dX35_bareOf_77 (by decide) (fun c9 => ?_) (fun c9 => ?_)
        · replace hf := (if_pos (show q8.1 = 0 from c9)).symm.trans hf
          refine w_iload_n dX35_bareOf_86 rfl rfl ?_
          exact (pX35_bareOf_b87 hd ih hf).to ⟨rfl, rfl, rfl, rfl, trivial⟩
        · replace hf := (if_neg (show ¬ (q8.1 = 0) from c9)).symm.trans hf
          refine w_iload_n dX35_bareOf_80 rfl rfl ?_
          refine w_iconst dX35_bareOf_81 (v := 1) (by decide) ?_
          refine w_isub dX35_bareOf_82 ?_
          refine w_goto 87 dX35_bareOf_83 (by decide) ?_
          exact (pX35_bareOf_b87 hd ih hf).to ⟨rfl, rfl, rfl, rfl, trivial⟩
      · replace hf := (if_neg (show ¬ (q6.1 = 0) from c7)).symm.trans hf
        refine w_iload_n dX35_bareOf_65 rfl rfl ?_
        refine w_iconst dX35_bareOf_66 (v := 1) (by decide) ?_
        refine w_iadd dX35_bareOf_67 ?_
        refine w_goto 87 dX35_bareOf_68 (by decide) ?_
        exact (pX35_bareOf_b87 hd ih hf).to ⟨rfl, rfl, rfl, rfl, trivial⟩
def fX35_bareOf (N : Nat) (this : Nat) (p0 : Int32) (h : eH) : Option (Unit × eH) :=
  (g_A 34 h this 40).bind fun a1 =>
  (r_I 100 h a1 p0).bind fun x3 =>
  if x3 < (2 : Int32) then
    fX35_bareOf_b29 N h
  else
    (g_A 34 h this 39).bind fun a6 =>
    (r_I 100 h a6 ((11000 : Int32) * p0)).bind fun x8 =>
    (fX35_isOf x8 (1 : Int32) h).bind fun q10 =>
    if ¬ q10.1 = 0 then
      fX35_bareOf_b35 N N this p0 x3 (0 : Int32) (0 : Int32) q10.2
    else
      fX35_bareOf_b29 N q10.2
theorem pX35_bareOf {w : eW} {d : Nat} (hd : 2 ≤ d) {N : Nat} {this : Nat} {p0 : Int32} {h : eH} {q} (hf : fX35_bareOf N this p0 h = some q) : wm w d YX35_bareOf [.ref this, .int p0] h (e_is (e_rn c_V q)) := by
  obtain ⟨d, rfl⟩ : ∃ e, d = e + 1 := ⟨d - 1, by omega⟩
  show wp w (d + 1) YX35_bareOf 0 [some (.ref this), some (.int p0), none, none, none, none] [] h _
  unfold fX35_bareOf at hf
  refine w_aload_n dX35_bareOf_0 rfl rfl ?_
  obtain ⟨a1, b2, hf⟩ := Option.bind_eq_some_iff.mp hf
  refine GX35_112 b2 dX35_bareOf_1 rfl ?_
  refine w_iload_n dX35_bareOf_4 rfl rfl ?_
  obtain ⟨x3, b4, hf⟩ := Option.bind_eq_some_iff.mp hf
  refine x_rI b4 dX35_bareOf_5 ?_
  refine w_istore_n dX35_bareOf_6 rfl (by decide) (ls' := [some (.ref this), some (.int p0), some (.int x3), none, none, none]) rfl ?_
  refine w_iload_n dX35_bareOf_7 rfl rfl ?_
  refine w_iconst dX35_bareOf_8 (v := 2) (by decide) ?_
  refine w_icmp_lt 29 dX35_bareOf_9 (by decide) (fun c5 => ?_) (fun c5 => ?_)
  · replace hf := (if_pos (show x3 < (2 : Int32) from c5)).symm.trans hf
    exact (pX35_bareOf_b29 hd hf).to trivial
  · replace hf := (if_neg (show ¬ (x3 < (2 : Int32)) from c5)).symm.trans hf
    refine w_aload_n dX35_bareOf_12 rfl rfl ?_
    obtain ⟨a6, b7, hf⟩ := Option.bind_eq_some_iff.mp hf
    refine GX35_109 b7 dX35_bareOf_13 rfl ?_
    refine w_sipush dX35_bareOf_16 (v := 11000) (by decide) ?_
    refine w_iload_n dX35_bareOf_19 rfl rfl ?_
    refine w_imul dX35_bareOf_20 ?_
    obtain ⟨x8, b9, hf⟩ := Option.bind_eq_some_iff.mp hf
    refine x_rI b9 dX35_bareOf_21 ?_
    refine w_iconst dX35_bareOf_22 (v := 1) (by decide) ?_
    refine x_cnI hf (e_stS (Yc := YX35_isOf) (av := [.int x8, .int (1 : Int32)]) (st := []) dX35_bareOf_23 q5166 mX35_isOf) mX35_isOf.2.2.1 mX35_isOf.2.2.2.2.1 (Nat.le_of_ble_eq_true rfl) (Nat.le_of_ble_eq_true rfl) (fun q hq => pX35_isOf (by omega) hq) (fun q10 hf => ?_)
    refine w_if_ne 30 dX35_bareOf_26 (by decide) (fun c11 => ?_) (fun c11 => ?_)
    · replace hf := (if_pos (show ¬ q10.1 = 0 from c11)).symm.trans hf
      refine w_iconst dX35_bareOf_30 (v := 0) (by decide) ?_
      refine w_istore_n dX35_bareOf_31 rfl (by decide) (ls' := [some (.ref this), some (.int p0), some (.int x3), some (.int (0 : Int32)), none, none]) rfl ?_
      refine w_iconst dX35_bareOf_32 (v := 0) (by decide) ?_
      refine w_istore dX35_bareOf_33 (by decide) (ls' := [some (.ref this), some (.int p0), some (.int x3), some (.int (0 : Int32)), some (.int (0 : Int32)), none]) rfl ?_
      exact (pX35_bareOf_b35 hd N _ _ _ _ _ _ _ hf).to ⟨rfl, rfl, rfl, rfl, rfl, trivial⟩
    · replace hf := (if_neg (show ¬ (¬ q10.1 = 0) from (fun z => z c11))).symm.trans hf
      exact (pX35_bareOf_b29 hd hf).to trivial
abbrev cX35_beginLine : ByteArray := prog_37_method_22_code
def yX35_beginLine : MethodName := ⟨RX35, "beginLine", "()Z"⟩
def YX35_beginLine : eY := (yX35_beginLine, cX35_beginLine, 4, (Option.some FieldType.boolean), [])
theorem mX35_beginLine : e_mv YX35_beginLine RX35 0 := ⟨q5091, qs239, q5092, by decide, by decide +kernel, (e_sig (by decide +kernel))⟩
theorem dX35_beginLine_0 : decode cX35_beginLine 0 = .ok (.aload_n 0, 1) := dc_42 (by decide +kernel)
theorem dX35_beginLine_1 : decode cX35_beginLine 1 = .ok (.getfield 326, 3) := dc_180 (a := 1) (b := 70) (n := 326) (by decide +kernel)
theorem dX35_beginLine_4 : decode cX35_beginLine 4 = .ok (.aload_n 0, 1) := dc_42 (by decide +kernel)
theorem dX35_beginLine_5 : decode cX35_beginLine 5 = .ok (.getfield 285, 3) := dc_180 (a := 1) (b := 29) (n := 285) (by decide +kernel)
theorem dX35_beginLine_8 : decode cX35_beginLine 8 = .ok (.if_icmp .lt 5, 3) := dc_161 (a := 0) (b := 5) (v := 5) (by decide +kernel)
theorem dX35_beginLine_11 : decode cX35_beginLine 11 = .ok (.iconst 0, 1) := dc_3 (by decide +kernel)
theorem dX35_beginLine_12 : decode cX35_beginLine 12 = .ok (.ireturn, 1) := dc_172 (by decide +kernel)
theorem dX35_beginLine_13 : decode cX35_beginLine 13 = .ok (.aload_n 0, 1) := dc_42 (by decide +kernel)
theorem dX35_beginLine_14 : decode cX35_beginLine 14 = .ok (.getfield 326, 3) := dc_180 (a := 1) (b := 70) (n := 326) (by decide +kernel)
theorem dX35_beginLine_17 : decode cX35_beginLine 17 = .ok (.istore_n 1, 1) := dc_60 (by decide +kernel)
theorem dX35_beginLine_18 : decode cX35_beginLine 18 = .ok (.iload_n 1, 1) := dc_27 (by decide +kernel)
theorem dX35_beginLine_19 : decode cX35_beginLine 19 = .ok (.aload_n 0, 1) := dc_42 (by decide +kernel)
theorem dX35_beginLine_20 : decode cX35_beginLine 20 = .ok (.getfield 285, 3) := dc_180 (a := 1) (b := 29) (n := 285) (by decide +kernel)
theorem dX35_beginLine_23 : decode cX35_beginLine 23 = .ok (.if_icmp .ge 20, 3) := dc_162 (a := 0) (b := 20) (v := 20) (by decide +kernel)
theorem dX35_beginLine_26 : decode cX35_beginLine 26 = .ok (.aload_n 0, 1) := dc_42 (by decide +kernel)
theorem dX35_beginLine_27 : decode cX35_beginLine 27 = .ok (.getfield 8, 3) := dc_180 (a := 0) (b := 8) (n := 8) (by decide +kernel)
theorem dX35_beginLine_30 : decode cX35_beginLine 30 = .ok (.iload_n 1, 1) := dc_27 (by decide +kernel)
theorem dX35_beginLine_31 : decode cX35_beginLine 31 = .ok (.baload, 1) := dc_51 (by decide +kernel)
theorem dX35_beginLine_32 : decode cX35_beginLine 32 = .ok (.bipush 10, 2) := dc_16 (a := 10) (v := 10) (by decide +kernel)
theorem dX35_beginLine_34 : decode cX35_beginLine 34 = .ok (.if_icmp .eq 9, 3) := dc_159 (a := 0) (b := 9) (v := 9) (by decide +kernel)
theorem dX35_beginLine_37 : decode cX35_beginLine 37 = .ok (.iinc 1 1, 3) := dc_132 (a := 1) (b := 1) (v := 1) (by decide +kernel)
theorem dX35_beginLine_40 : decode cX35_beginLine 40 = .ok (.goto (-22), 3) := dc_167 (a := 255) (b := 234) (v := -22) (by decide +kernel)
theorem dX35_beginLine_43 : decode cX35_beginLine 43 = .ok (.iload_n 1, 1) := dc_27 (by decide +kernel)
theorem dX35_beginLine_44 : decode cX35_beginLine 44 = .ok (.istore_n 2, 1) := dc_61 (by decide +kernel)
theorem dX35_beginLine_45 : decode cX35_beginLine 45 = .ok (.iload_n 2, 1) := dc_28 (by decide +kernel)
theorem dX35_beginLine_46 : decode cX35_beginLine 46 = .ok (.aload_n 0, 1) := dc_42 (by decide +kernel)
theorem dX35_beginLine_47 : decode cX35_beginLine 47 = .ok (.getfield 326, 3) := dc_180 (a := 1) (b := 70) (n := 326) (by decide +kernel)
theorem dX35_beginLine_50 : decode cX35_beginLine 50 = .ok (.if_icmp .le 22, 3) := dc_164 (a := 0) (b := 22) (v := 22) (by decide +kernel)
theorem dX35_beginLine_53 : decode cX35_beginLine 53 = .ok (.aload_n 0, 1) := dc_42 (by decide +kernel)
theorem dX35_beginLine_54 : decode cX35_beginLine 54 = .ok (.getfield 8, 3) := dc_180 (a := 0) (b := 8) (n := 8) (by decide +kernel)
theorem dX35_beginLine_57 : decode cX35_beginLine 57 = .ok (.iload_n 2, 1) := dc_28 (by decide +kernel)
theorem dX35_beginLine_58 : decode cX35_beginLine 58 = .ok (.iconst 1, 1) := dc_4 (by decide +kernel)
theorem dX35_beginLine_59 : decode cX35_beginLine 59 = .ok (.isub, 1) := dc_100 (by decide +kernel)
theorem dX35_beginLine_60 : decode cX35_beginLine 60 = .ok (.baload, 1) := dc_51 (by decide +kernel)
theorem dX35_beginLine_61 : decode cX35_beginLine 61 = .ok (.bipush 32, 2) := dc_16 (a := 32) (v := 32) (by decide +kernel)
theorem dX35_beginLine_63 : decode cX35_beginLine 63 = .ok (.if_icmp .ne 9, 3) := dc_160 (a := 0) (b := 9) (v := 9) (by decide +kernel)
theorem dX35_beginLine_66 : decode cX35_beginLine 66 = .ok (.iinc 2 (-1), 3) := dc_132 (a := 2) (b := 255) (v := -1) (by decide +kernel)
theorem dX35_beginLine_69 : decode cX35_beginLine 69 = .ok (.goto (-24), 3) := dc_167 (a := 255) (b := 232) (v := -24) (by decide +kernel)
theorem dX35_beginLine_72 : decode cX35_beginLine 72 = .ok (.aload_n 0, 1) := dc_42 (by decide +kernel)
theorem dX35_beginLine_73 : decode cX35_beginLine 73 = .ok (.iconst 0, 1) := dc_3 (by decide +kernel)
theorem dX35_beginLine_74 : decode cX35_beginLine 74 = .ok (.putfield 332, 3) := dc_181 (a := 1) (b := 76) (n := 332) (by decide +kernel)
theorem dX35_beginLine_77 : decode cX35_beginLine 77 = .ok (.aload_n 0, 1) := dc_42 (by decide +kernel)
theorem dX35_beginLine_78 : decode cX35_beginLine 78 = .ok (.getfield 326, 3) := dc_180 (a := 1) (b := 70) (n := 326) (by decide +kernel)
theorem dX35_beginLine_81 : decode cX35_beginLine 81 = .ok (.istore_n 3, 1) := dc_62 (by decide +kernel)
theorem dX35_beginLine_82 : decode cX35_beginLine 82 = .ok (.iload_n 3, 1) := dc_29 (by decide +kernel)
theorem dX35_beginLine_83 : decode cX35_beginLine 83 = .ok (.iload_n 2, 1) := dc_28 (by decide +kernel)
theorem dX35_beginLine_84 : decode cX35_beginLine 84 = .ok (.if_icmp .ge 38, 3) := dc_162 (a := 0) (b := 38) (v := 38) (by decide +kernel)
theorem dX35_beginLine_87 : decode cX35_beginLine 87 = .ok (.aload_n 0, 1) := dc_42 (by decide +kernel)
theorem dX35_beginLine_88 : decode cX35_beginLine 88 = .ok (.getfield 47, 3) := dc_180 (a := 0) (b := 47) (n := 47) (by decide +kernel)
theorem dX35_beginLine_91 : decode cX35_beginLine 91 = .ok (.aload_n 0, 1) := dc_42 (by decide +kernel)
theorem dX35_beginLine_92 : decode cX35_beginLine 92 = .ok (.getfield 332, 3) := dc_180 (a := 1) (b := 76) (n := 332) (by decide +kernel)
theorem dX35_beginLine_95 : decode cX35_beginLine 95 = .ok (.aload_n 0, 1) := dc_42 (by decide +kernel)
theorem dX35_beginLine_96 : decode cX35_beginLine 96 = .ok (.getfield 8, 3) := dc_180 (a := 0) (b := 8) (n := 8) (by decide +kernel)
theorem dX35_beginLine_99 : decode cX35_beginLine 99 = .ok (.iload_n 3, 1) := dc_29 (by decide +kernel)
theorem dX35_beginLine_100 : decode cX35_beginLine 100 = .ok (.baload, 1) := dc_51 (by decide +kernel)
theorem dX35_beginLine_101 : decode cX35_beginLine 101 = .ok (.sipush 255, 3) := dc_17 (a := 0) (b := 255) (v := 255) (by decide +kernel)
theorem dX35_beginLine_104 : decode cX35_beginLine 104 = .ok (.iand, 1) := dc_126 (by decide +kernel)
theorem dX35_beginLine_105 : decode cX35_beginLine 105 = .ok (.iastore, 1) := dc_79 (by decide +kernel)
theorem dX35_beginLine_106 : decode cX35_beginLine 106 = .ok (.aload_n 0, 1) := dc_42 (by decide +kernel)
theorem dX35_beginLine_107 : decode cX35_beginLine 107 = .ok (.dup, 1) := dc_89 (by decide +kernel)
theorem dX35_beginLine_108 : decode cX35_beginLine 108 = .ok (.getfield 332, 3) := dc_180 (a := 1) (b := 76) (n := 332) (by decide +kernel)
theorem dX35_beginLine_111 : decode cX35_beginLine 111 = .ok (.iconst 1, 1) := dc_4 (by decide +kernel)
theorem dX35_beginLine_112 : decode cX35_beginLine 112 = .ok (.iadd, 1) := dc_96 (by decide +kernel)
theorem dX35_beginLine_113 : decode cX35_beginLine 113 = .ok (.putfield 332, 3) := dc_181 (a := 1) (b := 76) (n := 332) (by decide +kernel)
theorem dX35_beginLine_116 : decode cX35_beginLine 116 = .ok (.iinc 3 1, 3) := dc_132 (a := 3) (b := 1) (v := 1) (by decide +kernel)
theorem dX35_beginLine_119 : decode cX35_beginLine 119 = .ok (.goto (-37), 3) := dc_167 (a := 255) (b := 219) (v := -37) (by decide +kernel)
theorem dX35_beginLine_122 : decode cX35_beginLine 122 = .ok (.aload_n 0, 1) := dc_42 (by decide +kernel)
theorem dX35_beginLine_123 : decode cX35_beginLine 123 = .ok (.getfield 47, 3) := dc_180 (a := 0) (b := 47) (n := 47) (by decide +kernel)
theorem dX35_beginLine_126 : decode cX35_beginLine 126 = .ok (.aload_n 0, 1) := dc_42 (by decide +kernel)
theorem dX35_beginLine_127 : decode cX35_beginLine 127 = .ok (.getfield 332, 3) := dc_180 (a := 1) (b := 76) (n := 332) (by decide +kernel)
theorem dX35_beginLine_130 : decode cX35_beginLine 130 = .ok (.bipush 13, 2) := dc_16 (a := 13) (v := 13) (by decide +kernel)
theorem dX35_beginLine_132 : decode cX35_beginLine 132 = .ok (.iastore, 1) := dc_79 (by decide +kernel)
theorem dX35_beginLine_133 : decode cX35_beginLine 133 = .ok (.aload_n 0, 1) := dc_42 (by decide +kernel)
theorem dX35_beginLine_134 : decode cX35_beginLine 134 = .ok (.dup, 1) := dc_89 (by decide +kernel)
theorem dX35_beginLine_135 : decode cX35_beginLine 135 = .ok (.getfield 332, 3) := dc_180 (a := 1) (b := 76) (n := 332) (by decide +kernel)
theorem dX35_beginLine_138 : decode cX35_beginLine 138 = .ok (.iconst 1, 1) := dc_4 (by decide +kernel)
theorem dX35_beginLine_139 : decode cX35_beginLine 139 = .ok (.iadd, 1) := dc_96 (by decide +kernel)
theorem dX35_beginLine_140 : decode cX35_beginLine 140 = .ok (.putfield 332, 3) := dc_181 (a := 1) (b := 76) (n := 332) (by decide +kernel)
theorem dX35_beginLine_143 : decode cX35_beginLine 143 = .ok (.aload_n 0, 1) := dc_42 (by decide +kernel)
theorem dX35_beginLine_144 : decode cX35_beginLine 144 = .ok (.iconst 0, 1) := dc_3 (by decide +kernel)
theorem dX35_beginLine_145 : decode cX35_beginLine 145 = .ok (.putfield 335, 3) := dc_181 (a := 1) (b := 79) (n := 335) (by decide +kernel)
theorem dX35_beginLine_148 : decode cX35_beginLine 148 = .ok (.aload_n 0, 1) := dc_42 (by decide +kernel)
theorem dX35_beginLine_149 : decode cX35_beginLine 149 = .ok (.iload_n 1, 1) := dc_27 (by decide +kernel)
theorem dX35_beginLine_150 : decode cX35_beginLine 150 = .ok (.iconst 1, 1) := dc_4 (by decide +kernel)
theorem dX35_beginLine_151 : decode cX35_beginLine 151 = .ok (.iadd, 1) := dc_96 (by decide +kernel)
theorem dX35_beginLine_152 : decode cX35_beginLine 152 = .ok (.putfield 326, 3) := dc_181 (a := 1) (b := 70) (n := 326) (by decide +kernel)
theorem dX35_beginLine_155 : decode cX35_beginLine 155 = .ok (.aload_n 0, 1) := dc_42 (by decide +kernel)
theorem dX35_beginLine_156 : decode cX35_beginLine 156 = .ok (.dup, 1) := dc_89 (by decide +kernel)
theorem dX35_beginLine_157 : decode cX35_beginLine 157 = .ok (.getfield 329, 3) := dc_180 (a := 1) (b := 73) (n := 329) (by decide +kernel)
theorem dX35_beginLine_160 : decode cX35_beginLine 160 = .ok (.iconst 1, 1) := dc_4 (by decide +kernel)
theorem dX35_beginLine_161 : decode cX35_beginLine 161 = .ok (.iadd, 1) := dc_96 (by decide +kernel)
theorem dX35_beginLine_162 : decode cX35_beginLine 162 = .ok (.putfield 329, 3) := dc_181 (a := 1) (b := 73) (n := 329) (by decide +kernel)
theorem dX35_beginLine_165 : decode cX35_beginLine 165 = .ok (.aload_n 0, 1) := dc_42 (by decide +kernel)
theorem dX35_beginLine_166 : decode cX35_beginLine 166 = .ok (.iconst 0, 1) := dc_3 (by decide +kernel)
theorem dX35_beginLine_167 : decode cX35_beginLine 167 = .ok (.putfield 338, 3) := dc_181 (a := 1) (b := 82) (n := 338) (by decide +kernel)
theorem dX35_beginLine_170 : decode cX35_beginLine 170 = .ok (.iconst 1, 1) := dc_4 (by decide +kernel)
theorem dX35_beginLine_171 : decode cX35_beginLine 171 = .ok (.ireturn, 1) := dc_172 (by decide +kernel)
theorem GX35_285 {w : eW} {d : Nat} {Y : eY} {pc : Nat} {ls : eL} {st : List Value} {h : eH} {Q : eO → eH → Prop} {a : Nat} {x : Int32} (hf : g_I 34 h a 8 = some x) (hd : decode Y.2.1 pc = .ok (.getfield 285, 3)) (hY : Y.1.cls = RX35) (kk : wp w d Y (pc + 3) ls (.int x :: st) h Q) : wp w d Y pc ls (.ref a :: st) h Q := x_gI (ci := 34) (k := 8) hf hd rfl (by decide) (by rw [hY]; exact q4510) kk
theorem GX35_326 {w : eW} {d : Nat} {Y : eY} {pc : Nat} {ls : eL} {st : List Value} {h : eH} {Q : eO → eH → Prop} {a : Nat} {x : Int32} (hf : g_I 34 h a 9 = some x) (hd : decode Y.2.1 pc = .ok (.getfield 326, 3)) (hY : Y.1.cls = RX35) (kk : wp w d Y (pc + 3) ls (.int x :: st) h Q) : wp w d Y pc ls (.ref a :: st) h Q := x_gI (ci := 34) (k := 9) hf hd rfl (by decide) (by rw [hY]; exact q4511) kk
theorem GX35_329 {w : eW} {d : Nat} {Y : eY} {pc : Nat} {ls : eL} {st : List Value} {h : eH} {Q : eO → eH → Prop} {a : Nat} {x : Int32} (hf : g_I 34 h a 10 = some x) (hd : decode Y.2.1 pc = .ok (.getfield 329, 3)) (hY : Y.1.cls = RX35) (kk : wp w d Y (pc + 3) ls (.int x :: st) h Q) : wp w d Y pc ls (.ref a :: st) h Q := x_gI (ci := 34) (k := 10) hf hd rfl (by decide) (by rw [hY]; exact q4512) kk
theorem GX35_332 {w : eW} {d : Nat} {Y : eY} {pc : Nat} {ls : eL} {st : List Value} {h : eH} {Q : eO → eH → Prop} {a : Nat} {x : Int32} (hf : g_I 34 h a 12 = some x) (hd : decode Y.2.1 pc = .ok (.getfield 332, 3)) (hY : Y.1.cls = RX35) (kk : wp w d Y (pc + 3) ls (.int x :: st) h Q) : wp w d Y pc ls (.ref a :: st) h Q := x_gI (ci := 34) (k := 12) hf hd rfl (by decide) (by rw [hY]; exact q4514) kk
theorem GX35_47 {w : eW} {d : Nat} {Y : eY} {pc : Nat} {ls : eL} {st : List Value} {h : eH} {Q : eO → eH → Prop} {a : Nat} {x : Nat} (hf : g_A 34 h a 11 = some x) (hd : decode Y.2.1 pc = .ok (.getfield 47, 3)) (hY : Y.1.cls = RX35) (kk : wp w d Y (pc + 3) ls (.ref x :: st) h Q) : wp w d Y pc ls (.ref a :: st) h Q := x_gA (ci := 34) (k := 11) hf hd rfl (by decide) (by rw [hY]; exact q4513) kk
theorem GX35_8 {w : eW} {d : Nat} {Y : eY} {pc : Nat} {ls : eL} {st : List Value} {h : eH} {Q : eO → eH → Prop} {a : Nat} {x : Nat} (hf : g_A 34 h a 2 = some x) (hd : decode Y.2.1 pc = .ok (.getfield 8, 3)) (hY : Y.1.cls = RX35) (kk : wp w d Y (pc + 3) ls (.ref x :: st) h Q) : wp w d Y pc ls (.ref a :: st) h Q := x_gA (ci := 34) (k := 2) hf hd rfl (by decide) (by rw [hY]; exact q4504) kk
def fX35_beginLine_b82 (N : Nat) : Nat → Nat → Int32 → Int32 → Int32 → eH → Option (Int32 × eH)
  | 0, _, _, _, _, _ => none
  | n + 1, l0, l1, l2, l3, h =>
    if l2 ≤ l3 then
      (g_A 34 h l0 11).bind fun a2 =>
      (g_I 34 h l0 12).bind fun x4 =>
      (q_V 100 h a2 x4 (.int (13 : Int32))).bind fun h6 =>
      (g_I 34 h6 l0 12).bind fun x8 =>
      (p_V 34 h6 l0 12 (.int (x8 + (1 : Int32)))).bind fun h10 =>
      (p_V 34 h10 l0 13 (.int (0 : Int32))).bind fun h12 =>
      (p_V 34 h12 l0 9 (.int (l1 + (1 : Int32)))).bind fun h14 =>
      (g_I 34 h14 l0 10).bind fun x16 =>
      (p_V 34 h14 l0 10 (.int (x16 + (1 : Int32)))).bind fun h18 =>
      (p_V 34 h18 l0 14 (.int (0 : Int32))).bind fun h20 =>
      some ((1 : Int32), h20)
    else
      (g_A 34 h l0 11).bind fun a22 =>
      (g_I 34 h l0 12).bind fun x24 =>
      (g_A 34 h l0 2).bind fun a26 =>
      (r_I 102 h a26 l3).bind fun x28 =>
      (q_V 100 h a22 x24 (.int (x28 &&& (255 : Int32)))).bind fun h30 =>
      (g_I 34 h30 l0 12).bind fun x32 =>
      (p_V 34 h30 l0 12 (.int (x32 + (1 : Int32)))).bind fun h34 =>
      fX35_beginLine_b82 N n l0 l1 l2 (l3 + (1 : Int32)) h34
theorem pX35_beginLine_b82 {w : eW} {d : Nat} (hd : 0 ≤ d) {N : Nat} : ∀ (n : Nat) l0 l1 l2 l3 h q, fX35_beginLine_b82 N n l0 l1 l2 l3 h = some q → wp w d YX35_beginLine 82 [some (.ref l0), some (.int l1), some (.int l2), some (.int l3)] [] h (e_is (e_rn c_I q)) := by
  intro n
  induction n with
  | zero => intro l0 l1 l2 l3 h q hf; simp [fX35_beginLine_b82] at hf
  | succ n ih =>
    intro l0 l1 l2 l3 h q hf
    rw [fX35_beginLine_b82] at hf
    refine w_iload_n dX35_beginLine_82 rfl rfl ?_
    refine w_iload_n dX35_beginLine_83 rfl rfl ?_
    refine w_icmp_ge 122 dX35_beginLine_84 (by decide) (fun c1 => ?_) (fun c1 => ?_)
    · replace hf := (if_pos (show l2 ≤ l3 from c1)).symm.trans hf
      refine w_aload_n dX35_beginLine_122 rfl rfl ?_
      obtain ⟨a2, b3, hf⟩ := Option.bind_eq_some_iff.mp hf
      refine GX35_47 b3 dX35_beginLine_123 rfl ?_
      refine w_aload_n dX35_beginLine_126 rfl rfl ?_
      obtain ⟨x4, b5, hf⟩ := Option.bind_eq_some_iff.mp hf
      refine GX35_332 b5 dX35_beginLine_127 rfl ?_
      refine w_bipush dX35_beginLine_130 (v := 13) (by decide) ?_
      obtain ⟨h6, b7, hf⟩ := Option.bind_eq_some_iff.mp hf
      refine x_qI b7 dX35_beginLine_132 ?_
      refine w_aload_n dX35_beginLine_133 rfl rfl ?_
      refine w_dup dX35_beginLine_134 rfl ?_
      obtain ⟨x8, b9, hf⟩ := Option.bind_eq_some_iff.mp hf
      refine GX35_332 b9 dX35_beginLine_135 rfl ?_
      refine w_iconst dX35_beginLine_138 (v := 1) (by decide) ?_
      refine w_iadd dX35_beginLine_139 ?_
      obtain ⟨h10, b11, hf⟩ := Option.bind_eq_some_iff.mp hf
      refine SX35_332 b11 dX35_beginLine_140 rfl ?_
      refine w_aload_n dX35_beginLine_143 rfl rfl ?_
      refine w_iconst dX35_beginLine_144 (v := 0) (by decide) ?_
      obtain ⟨h12, b13, hf⟩ := Option.bind_eq_some_iff.mp hf
      refine SX35_335 b13 dX35_beginLine_145 rfl ?_
      refine w_aload_n dX35_beginLine_148 rfl rfl ?_
      refine w_iload_n dX35_beginLine_149 rfl rfl ?_
      refine w_iconst dX35_beginLine_150 (v := 1) (by decide) ?_
      refine w_iadd dX35_beginLine_151 ?_
      obtain ⟨h14, b15, hf⟩ := Option.bind_eq_some_iff.mp hf
      refine SX35_326 b15 dX35_beginLine_152 rfl ?_
      refine w_aload_n dX35_beginLine_155 rfl rfl ?_
      refine w_dup dX35_beginLine_156 rfl ?_
      obtain ⟨x16, b17, hf⟩ := Option.bind_eq_some_iff.mp hf
      refine GX35_329 b17 dX35_beginLine_157 rfl ?_
      refine w_iconst dX35_beginLine_160 (v := 1) (by decide) ?_
      refine w_iadd dX35_beginLine_161 ?_
      obtain ⟨h18, b19, hf⟩ := Option.bind_eq_some_iff.mp hf
      refine SX35_329 b19 dX35_beginLine_162 rfl ?_
      refine w_aload_n dX35_beginLine_165 rfl rfl ?_
      refine w_iconst dX35_beginLine_166 (v := 0) (by decide) ?_
      obtain ⟨h20, b21, hf⟩ := Option.bind_eq_some_iff.mp hf
      refine SX35_338 b21 dX35_beginLine_167 rfl ?_
      refine w_iconst dX35_beginLine_170 (v := 1) (by decide) ?_
      cases hf
      exact w_iret dX35_beginLine_171 rfl rfl rfl
    · replace hf := (if_neg (show ¬ (l2 ≤ l3) from c1)).symm.trans hf
      refine w_aload_n dX35_beginLine_87 rfl rfl ?_
      obtain ⟨a22, b23, hf⟩ := Option.bind_eq_some_iff.mp hf
      refine GX35_47 b23 dX35_beginLine_88 rfl ?_
      refine w_aload_n dX35_beginLine_91 rfl rfl ?_
      obtain ⟨x24, b25, hf⟩ := Option.bind_eq_some_iff.mp hf
      refine GX35_332 b25 dX35_beginLine_92 rfl ?_
      refine w_aload_n dX35_beginLine_95 rfl rfl ?_
      obtain ⟨a26, b27, hf⟩ := Option.bind_eq_some_iff.mp hf
      refine GX35_8 b27 dX35_beginLine_96 rfl ?_
      refine w_iload_n dX35_beginLine_99 rfl rfl ?_
      obtain ⟨x28, b29, hf⟩ := Option.bind_eq_some_iff.mp hf
      refine x_rB b29 dX35_beginLine_100 ?_
      refine w_sipush dX35_beginLine_101 (v := 255) (by decide) ?_
      refine w_iand dX35_beginLine_104 ?_
      obtain ⟨h30, b31, hf⟩ := Option.bind_eq_some_iff.mp hf
      refine x_qI b31 dX35_beginLine_105 ?_
      refine w_aload_n dX35_beginLine_106 rfl rfl ?_
      refine w_dup dX35_beginLine_107 rfl ?_
      obtain ⟨x32, b33, hf⟩ := Option.bind_eq_some_iff.mp hf
      refine GX35_332 b33 dX35_beginLine_108 rfl ?_
      refine w_iconst dX35_beginLine_111 (v := 1) (by decide) ?_
      refine w_iadd dX35_beginLine_112 ?_
      obtain ⟨h34, b35, hf⟩ := Option.bind_eq_some_iff.mp hf
      refine SX35_332 b35 dX35_beginLine_113 rfl ?_
      refine w_iinc dX35_beginLine_116 (v := (l3 + (1 : Int32))) rfl rfl (by decide) (ls' := [some (.ref l0), some (.int l1), some (.int l2), some (.int (l3 + (1 : Int32)))]) rfl ?_
      refine w_goto 82 dX35_beginLine_119 (by decide) ?_
      exact (ih _ _ _ _ _ _ hf).to ⟨rfl, rfl, rfl, rfl, trivial⟩
def fX35_beginLine_b72 (N : Nat) (l0 : Nat) (l1 : Int32) (l2 : Int32) (h : eH) : Option (Int32 × eH) :=
  (p_V 34 h l0 12 (.int (0 : Int32))).bind fun h1 =>
  (g_I 34 h1 l0 9).bind fun x3 =>
  fX35_beginLine_b82 N N l0 l1 l2 x3 h1
theorem pX35_beginLine_b72 {w : eW} {d : Nat} (hd : 0 ≤ d) {N : Nat} {l0 : Nat} {l1 : Int32} {l2 : Int32} {h : eH} {q} (hf : fX35_beginLine_b72 N l0 l1 l2 h = some q) : wp w d YX35_beginLine 72 [some (.ref l0), some (.int l1), some (.int l2), none] [] h (e_is (e_rn c_I q)) := by
  unfold fX35_beginLine_b72 at hf
  refine w_aload_n dX35_beginLine_72 rfl rfl ?_
  refine w_iconst dX35_beginLine_73 (v := 0) (by decide) ?_
  obtain ⟨h1, b2, hf⟩ := Option.bind_eq_some_iff.mp hf
  refine SX35_332 b2 dX35_beginLine_74 rfl ?_
  refine w_aload_n dX35_beginLine_77 rfl rfl ?_
  obtain ⟨x3, b4, hf⟩ := Option.bind_eq_some_iff.mp hf
  refine GX35_326 b4 dX35_beginLine_78 rfl ?_
  refine w_istore_n dX35_beginLine_81 rfl (by decide) (ls' := [some (.ref l0), some (.int l1), some (.int l2), some (.int x3)]) rfl ?_
  exact (pX35_beginLine_b82 hd N _ _ _ _ _ _ hf).to ⟨rfl, rfl, rfl, rfl, trivial⟩
def fX35_beginLine_b45 (N : Nat) : Nat → Nat → Int32 → Int32 → eH → Option (Int32 × eH)
  | 0, _, _, _, _ => none
  | n + 1, l0, l1, l2, h =>
    (g_I 34 h l0 9).bind fun x1 =>
    if l2 ≤ x1 then
      fX35_beginLine_b72 N l0 l1 l2 h
    else
      (g_A 34 h l0 2).bind fun a4 =>
      (r_I 102 h a4 (l2 - (1 : Int32))).bind fun x6 =>
      if ¬ x6 = (32 : Int32) then
        fX35_beginLine_b72 N l0 l1 l2 h
      else
        fX35_beginLine_b45 N n l0 l1 (l2 + (-1 : Int32)) h
theorem pX35_beginLine_b45 {w : eW} {d : Nat} (hd : 0 ≤ d) {N : Nat} : ∀ (n : Nat) l0 l1 l2 h q, fX35_beginLine_b45 N n l0 l1 l2 h = some q → wp w d YX35_beginLine 45 [some (.ref l0), some (.int l1), some (.int l2), none] [] h (e_is (e_rn c_I q)) := by
  intro n
  induction n with
  | zero => intro l0 l1 l2 h q hf; simp [fX35_beginLine_b45] at hf
  | succ n ih =>
    intro l0 l1 l2 h q hf
    rw [fX35_beginLine_b45] at hf
    refine w_iload_n dX35_beginLine_45 rfl rfl ?_
    refine w_aload_n dX35_beginLine_46 rfl rfl ?_
    obtain ⟨x1, b2, hf⟩ := Option.bind_eq_some_iff.mp hf
    refine GX35_326 b2 dX35_beginLine_47 rfl ?_
    refine w_icmp_le 72 dX35_beginLine_50 (by decide) (fun c3 => ?_) (fun c3 => ?_)
    · replace hf := (if_pos (show l2 ≤ x1 from c3)).symm.trans hf
      exact (pX35_beginLine_b72 hd hf).to ⟨rfl, rfl, rfl, trivial⟩
    · replace hf := (if_neg (show ¬ (l2 ≤ x1) from c3)).symm.trans hf
      refine w_aload_n dX35_beginLine_53 rfl rfl ?_
      obtain ⟨a4, b5, hf⟩ := Option.bind_eq_some_iff.mp hf
      refine GX35_8 b5 dX35_beginLine_54 rfl ?_
      refine w_iload_n dX35_beginLine_57 rfl rfl ?_
      refine w_iconst dX35_beginLine_58 (v := 1) (by decide) ?_
      refine w_isub dX35_beginLine_59 ?_
      obtain ⟨x6, b7, hf⟩ := Option.bind_eq_some_iff.mp hf
      refine x_rB b7 dX35_beginLine_60 ?_
      refine w_bipush dX35_beginLine_61 (v := 32) (by decide) ?_
      refine w_icmp_ne 72 dX35_beginLine_63 (by decide) (fun c8 => ?_) (fun c8 => ?_)
      · replace hf := (if_pos (show ¬ x6 = (32 : Int32) from c8)).symm.trans hf
        exact (pX35_beginLine_b72 hd hf).to ⟨rfl, rfl, rfl, trivial⟩
      · replace hf := (if_neg (show ¬ (¬ x6 = (32 : Int32)) from (fun z => z c8))).symm.trans hf
        refine w_iinc dX35_beginLine_66 (v := (l2 + (-1 : Int32))) rfl rfl (by decide) (ls' := [some (.ref l0), some (.int l1), some (.int (l2 + (-1 : Int32))), none]) rfl ?_
        refine w_goto 45 dX35_beginLine_69 (by decide) ?_
        exact (ih _ _ _ _ _ hf).to ⟨rfl, rfl, rfl, trivial⟩
def fX35_beginLine_b43 (N : Nat) (l0 : Nat) (l1 : Int32) (h : eH) : Option (Int32 × eH) :=
  fX35_beginLine_b45 N N l0 l1 l1 h
theorem pX35_beginLine_b43 {w : eW} {d : Nat} (hd : 0 ≤ d) {N : Nat} {l0 : Nat} {l1 : Int32} {h : eH} {q} (hf : fX35_beginLine_b43 N l0 l1 h = some q) : wp w d YX35_beginLine 43 [some (.ref l0), some (.int l1), none, none] [] h (e_is (e_rn c_I q)) := by
  unfold fX35_beginLine_b43 at hf
  refine w_iload_n dX35_beginLine_43 rfl rfl ?_
  refine w_istore_n dX35_beginLine_44 rfl (by decide) (ls' := [some (.ref l0), some (.int l1), some (.int l1), none]) rfl ?_
  exact (pX35_beginLine_b45 hd N _ _ _ _ _ hf).to ⟨rfl, rfl, rfl, trivial⟩
def fX35_beginLine_b18 (N : Nat) : Nat → Nat → Int32 → eH → Option (Int32 × eH)
  | 0, _, _, _ => none
  | n + 1, l0, l1, h =>
    (g_I 34 h l0 8).bind fun x1 =>
    if x1 ≤ l1 then
      fX35_beginLine_b43 N l0 l1 h
    else
      (g_A 34 h l0 2).bind fun a4 =>
      (r_I 102 h a4 l1).bind fun x6 =>
      if x6 = (10 : Int32) then
        fX35_beginLine_b43 N l0 l1 h
      else
        fX35_beginLine_b18 N n l0 (l1 + (1 : Int32)) h
theorem pX35_beginLine_b18 {w : eW} {d : Nat} (hd : 0 ≤ d) {N : Nat} : ∀ (n : Nat) l0 l1 h q, fX35_beginLine_b18 N n l0 l1 h = some q → wp w d YX35_beginLine 18 [some (.ref l0), some (.int l1), none, none] [] h (e_is (e_rn c_I q)) := by
  intro n
  induction n with
  | zero => intro l0 l1 h q hf; simp [fX35_beginLine_b18] at hf
  | succ n ih =>
    intro l0 l1 h q hf
    rw [fX35_beginLine_b18] at hf
    refine w_iload_n dX35_beginLine_18 rfl rfl ?_
    refine w_aload_n dX35_beginLine_19 rfl rfl ?_
    obtain ⟨x1, b2, hf⟩ := Option.bind_eq_some_iff.mp hf
    refine GX35_285 b2 dX35_beginLine_20 rfl ?_
    refine w_icmp_ge 43 dX35_beginLine_23 (by decide) (fun c3 => ?_) (fun c3 => ?_)
    · replace hf := (if_pos (show x1 ≤ l1 from c3)).symm.trans hf
      exact (pX35_beginLine_b43 hd hf).to ⟨rfl, rfl, trivial⟩
    · replace hf := (if_neg (show ¬ (x1 ≤ l1) from c3)).symm.trans hf
      refine w_aload_n dX35_beginLine_26 rfl rfl ?_
      obtain ⟨a4, b5, hf⟩ := Option.bind_eq_some_iff.mp hf
      refine GX35_8 b5 dX35_beginLine_27 rfl ?_
      refine w_iload_n dX35_beginLine_30 rfl rfl ?_
      obtain ⟨x6, b7, hf⟩ := Option.bind_eq_some_iff.mp hf
      refine x_rB b7 dX35_beginLine_31 ?_
      refine w_bipush dX35_beginLine_32 (v := 10) (by decide) ?_
      refine w_icmp_eq 43 dX35_beginLine_34 (by decide) (fun c8 => ?_) (fun c8 => ?_)
      · replace hf := (if_pos (show x6 = (10 : Int32) from c8)).symm.trans hf
        exact (pX35_beginLine_b43 hd hf).to ⟨rfl, rfl, trivial⟩
      · replace hf := (if_neg (show ¬ (x6 = (10 : Int32)) from c8)).symm.trans hf
        refine w_iinc dX35_beginLine_37 (v := (l1 + (1 : Int32))) rfl rfl (by decide) (ls' := [some (.ref l0), some (.int (l1 + (1 : Int32))), none, none]) rfl ?_
        refine w_goto 18 dX35_beginLine_40 (by decide) ?_
        exact (ih _ _ _ _ hf).to ⟨rfl, rfl, trivial⟩
def fX35_beginLine (N : Nat) (this : Nat) (h : eH) : Option (Int32 × eH) :=
  (g_I 34 h this 9).bind fun x1 =>
  (g_I 34 h this 8).bind fun x3 =>
  if x1 < x3 then
    (g_I 34 h this 9).bind fun x6 =>
    fX35_beginLine_b18 N N this x6 h
  else
    some ((0 : Int32), h)
theorem pX35_beginLine {w : eW} {d : Nat} (hd : 0 ≤ d) {N : Nat} {this : Nat} {h : eH} {q} (hf : fX35_beginLine N this h = some q) : wm w d YX35_beginLine [.ref this] h (e_is (e_rn c_I q)) := by
  show wp w d YX35_beginLine 0 [some (.ref this), none, none, none] [] h _
  unfold fX35_beginLine at hf
  refine w_aload_n dX35_beginLine_0 rfl rfl ?_
  obtain ⟨x1, b2, hf⟩ := Option.bind_eq_some_iff.mp hf
  refine GX35_326 b2 dX35_beginLine_1 rfl ?_
  refine w_aload_n dX35_beginLine_4 rfl rfl ?_
  obtain ⟨x3, b4, hf⟩ := Option.bind_eq_some_iff.mp hf
  refine GX35_285 b4 dX35_beginLine_5 rfl ?_
  refine w_icmp_lt 13 dX35_beginLine_8 (by decide) (fun c5 => ?_) (fun c5 => ?_)
  · replace hf := (if_pos (show x1 < x3 from c5)).symm.trans hf
    refine w_aload_n dX35_beginLine_13 rfl rfl ?_
    obtain ⟨x6, b7, hf⟩ := Option.bind_eq_some_iff.mp hf
    refine GX35_326 b7 dX35_beginLine_14 rfl ?_
    refine w_istore_n dX35_beginLine_17 rfl (by decide) (ls' := [some (.ref this), some (.int x6), none, none]) rfl ?_
    exact (pX35_beginLine_b18 hd N _ _ _ _ hf).to ⟨rfl, rfl, trivial⟩
  · replace hf := (if_neg (show ¬ (x1 < x3) from c5)).symm.trans hf
    refine w_iconst dX35_beginLine_11 (v := 0) (by decide) ?_
    cases hf
    exact w_iret dX35_beginLine_12 rfl rfl rfl
abbrev cX35_mode : ByteArray := prog_37_method_103_code
def yX35_mode : MethodName := ⟨RX35, "mode", "()I"⟩
def YX35_mode : eY := (yX35_mode, cX35_mode, 1, (Option.some FieldType.int), [])
theorem mX35_mode : e_mv YX35_mode RX35 0 := ⟨q5419, qs301, q5420, by decide, by decide +kernel, (e_sig (by decide +kernel))⟩
theorem dX35_mode_0 : decode cX35_mode 0 = .ok (.aload_n 0, 1) := dc_42 (by decide +kernel)
theorem dX35_mode_1 : decode cX35_mode 1 = .ok (.getfield 127, 3) := dc_180 (a := 0) (b := 127) (n := 127) (by decide +kernel)
theorem dX35_mode_4 : decode cX35_mode 4 = .ok (.aload_n 0, 1) := dc_42 (by decide +kernel)
theorem dX35_mode_5 : decode cX35_mode 5 = .ok (.getfield 366, 3) := dc_180 (a := 1) (b := 110) (n := 366) (by decide +kernel)
theorem dX35_mode_8 : decode cX35_mode 8 = .ok (.iconst 1, 1) := dc_4 (by decide +kernel)
theorem dX35_mode_9 : decode cX35_mode 9 = .ok (.isub, 1) := dc_100 (by decide +kernel)
theorem dX35_mode_10 : decode cX35_mode 10 = .ok (.iaload, 1) := dc_46 (by decide +kernel)
theorem dX35_mode_11 : decode cX35_mode 11 = .ok (.ireturn, 1) := dc_172 (by decide +kernel)
theorem GX35_366 {w : eW} {d : Nat} {Y : eY} {pc : Nat} {ls : eL} {st : List Value} {h : eH} {Q : eO → eH → Prop} {a : Nat} {x : Int32} (hf : g_I 34 h a 51 = some x) (hd : decode Y.2.1 pc = .ok (.getfield 366, 3)) (hY : Y.1.cls = RX35) (kk : wp w d Y (pc + 3) ls (.int x :: st) h Q) : wp w d Y pc ls (.ref a :: st) h Q := x_gI (ci := 34) (k := 51) hf hd rfl (by decide) (by rw [hY]; exact q4553) kk
def fX35_mode (this : Nat) (h : eH) : Option (Int32 × eH) :=
  (g_A 34 h this 52).bind fun a1 =>
  (g_I 34 h this 51).bind fun x3 =>
  (r_I 100 h a1 (x3 - (1 : Int32))).bind fun x5 =>
  some (x5, h)
theorem pX35_mode {w : eW} {d : Nat} (hd : 0 ≤ d) {this : Nat} {h : eH} {q} (hf : fX35_mode this h = some q) : wm w d YX35_mode [.ref this] h (e_is (e_rn c_I q)) := by
  show wp w d YX35_mode 0 [some (.ref this)] [] h _
  unfold fX35_mode at hf
  refine w_aload_n dX35_mode_0 rfl rfl ?_
  obtain ⟨a1, b2, hf⟩ := Option.bind_eq_some_iff.mp hf
  refine GX35_127 b2 dX35_mode_1 rfl ?_
  refine w_aload_n dX35_mode_4 rfl rfl ?_
  obtain ⟨x3, b4, hf⟩ := Option.bind_eq_some_iff.mp hf
  refine GX35_366 b4 dX35_mode_5 rfl ?_
  refine w_iconst dX35_mode_8 (v := 1) (by decide) ?_
  refine w_isub dX35_mode_9 ?_
  obtain ⟨x5, b6, hf⟩ := Option.bind_eq_some_iff.mp hf
  refine x_rI b6 dX35_mode_10 ?_
  cases hf
  exact w_iret dX35_mode_11 rfl rfl rfl
abbrev cX35_openPage : ByteArray := prog_37_method_153_code
def yX35_openPage : MethodName := ⟨RX35, "openPage", "()V"⟩
def YX35_openPage : eY := (yX35_openPage, cX35_openPage, 3, none, [])
theorem mX35_openPage : e_mv YX35_openPage RX35 0 := ⟨q5475, qs315, q5476, by decide, by decide +kernel, (e_sig (by decide +kernel))⟩
theorem dX35_openPage_0 : decode cX35_openPage 0 = .ok (.aload_n 0, 1) := dc_42 (by decide +kernel)
theorem dX35_openPage_1 : decode cX35_openPage 1 = .ok (.getfield 379, 3) := dc_180 (a := 1) (b := 123) (n := 379) (by decide +kernel)
theorem dX35_openPage_4 : decode cX35_openPage 4 = .ok (.ifCond .ne 101, 3) := dc_154 (a := 0) (b := 101) (v := 101) (by decide +kernel)
theorem dX35_openPage_7 : decode cX35_openPage 7 = .ok (.aload_n 0, 1) := dc_42 (by decide +kernel)
theorem dX35_openPage_8 : decode cX35_openPage 8 = .ok (.getfield 382, 3) := dc_180 (a := 1) (b := 126) (n := 382) (by decide +kernel)
theorem dX35_openPage_11 : decode cX35_openPage 11 = .ok (.aload_n 0, 1) := dc_42 (by decide +kernel)
theorem dX35_openPage_12 : decode cX35_openPage 12 = .ok (.getfield 376, 3) := dc_180 (a := 1) (b := 120) (n := 376) (by decide +kernel)
theorem dX35_openPage_15 : decode cX35_openPage 15 = .ok (.if_icmp .ge 90, 3) := dc_162 (a := 0) (b := 90) (v := 90) (by decide +kernel)
theorem dX35_openPage_18 : decode cX35_openPage 18 = .ok (.aload_n 0, 1) := dc_42 (by decide +kernel)
theorem dX35_openPage_19 : decode cX35_openPage 19 = .ok (.getfield 195, 3) := dc_180 (a := 0) (b := 195) (n := 195) (by decide +kernel)
theorem dX35_openPage_22 : decode cX35_openPage 22 = .ok (.aload_n 0, 1) := dc_42 (by decide +kernel)
theorem dX35_openPage_23 : decode cX35_openPage 23 = .ok (.getfield 382, 3) := dc_180 (a := 1) (b := 126) (n := 382) (by decide +kernel)
theorem dX35_openPage_26 : decode cX35_openPage 26 = .ok (.iaload, 1) := dc_46 (by decide +kernel)
theorem dX35_openPage_27 : decode cX35_openPage 27 = .ok (.iconst 5, 1) := dc_8 (by decide +kernel)
theorem dX35_openPage_28 : decode cX35_openPage 28 = .ok (.if_icmp .ne 64, 3) := dc_160 (a := 0) (b := 64) (v := 64) (by decide +kernel)
theorem dX35_openPage_31 : decode cX35_openPage 31 = .ok (.aload_n 0, 1) := dc_42 (by decide +kernel)
theorem dX35_openPage_32 : decode cX35_openPage 32 = .ok (.iconst 1, 1) := dc_4 (by decide +kernel)
theorem dX35_openPage_33 : decode cX35_openPage 33 = .ok (.putfield 379, 3) := dc_181 (a := 1) (b := 123) (n := 379) (by decide +kernel)
theorem dX35_openPage_36 : decode cX35_openPage 36 = .ok (.aload_n 0, 1) := dc_42 (by decide +kernel)
theorem dX35_openPage_37 : decode cX35_openPage 37 = .ok (.sipush 2242, 3) := dc_17 (a := 8) (b := 194) (v := 2242) (by decide +kernel)
theorem dX35_openPage_40 : decode cX35_openPage 40 = .ok (.invokevirtual 431, 3) := dc_182 (a := 1) (b := 175) (n := 431) (by decide +kernel)
theorem dX35_openPage_43 : decode cX35_openPage 43 = .ok (.istore_n 1, 1) := dc_60 (by decide +kernel)
theorem dX35_openPage_44 : decode cX35_openPage 44 = .ok (.aload_n 0, 1) := dc_42 (by decide +kernel)
theorem dX35_openPage_45 : decode cX35_openPage 45 = .ok (.sipush 2245, 3) := dc_17 (a := 8) (b := 197) (v := 2245) (by decide +kernel)
theorem dX35_openPage_48 : decode cX35_openPage 48 = .ok (.invokevirtual 431, 3) := dc_182 (a := 1) (b := 175) (n := 431) (by decide +kernel)
theorem dX35_openPage_51 : decode cX35_openPage 51 = .ok (.istore_n 2, 1) := dc_61 (by decide +kernel)
theorem dX35_openPage_52 : decode cX35_openPage 52 = .ok (.aload_n 0, 1) := dc_42 (by decide +kernel)
theorem dX35_openPage_53 : decode cX35_openPage 53 = .ok (.iload_n 1, 1) := dc_27 (by decide +kernel)
theorem dX35_openPage_54 : decode cX35_openPage 54 = .ok (.ifCond .ge 7, 3) := dc_156 (a := 0) (b := 7) (v := 7) (by decide +kernel)
theorem dX35_openPage_57 : decode cX35_openPage 57 = .ok (.iconst 0, 1) := dc_3 (by decide +kernel)
theorem dX35_openPage_58 : decode cX35_openPage 58 = .ok (.goto 4, 3) := dc_167 (a := 0) (b := 4) (v := 4) (by decide +kernel)
theorem dX35_openPage_61 : decode cX35_openPage 61 = .ok (.iload_n 1, 1) := dc_27 (by decide +kernel)
theorem dX35_openPage_62 : decode cX35_openPage 62 = .ok (.putfield 1049, 3) := dc_181 (a := 4) (b := 25) (n := 1049) (by decide +kernel)
theorem dX35_openPage_65 : decode cX35_openPage 65 = .ok (.aload_n 0, 1) := dc_42 (by decide +kernel)
theorem dX35_openPage_66 : decode cX35_openPage 66 = .ok (.aload_n 0, 1) := dc_42 (by decide +kernel)
theorem dX35_openPage_67 : decode cX35_openPage 67 = .ok (.sipush 3283, 3) := dc_17 (a := 12) (b := 211) (v := 3283) (by decide +kernel)
theorem dX35_openPage_70 : decode cX35_openPage 70 = .ok (.invokevirtual 431, 3) := dc_182 (a := 1) (b := 175) (n := 431) (by decide +kernel)
theorem dX35_openPage_73 : decode cX35_openPage 73 = .ok (.putfield 1031, 3) := dc_181 (a := 4) (b := 7) (n := 1031) (by decide +kernel)
theorem dX35_openPage_76 : decode cX35_openPage 76 = .ok (.aload_n 0, 1) := dc_42 (by decide +kernel)
theorem dX35_openPage_77 : decode cX35_openPage 77 = .ok (.iload_n 2, 1) := dc_28 (by decide +kernel)
theorem dX35_openPage_78 : decode cX35_openPage 78 = .ok (.ifCond .ge 7, 3) := dc_156 (a := 0) (b := 7) (v := 7) (by decide +kernel)
theorem dX35_openPage_81 : decode cX35_openPage 81 = .ok (.iconst 0, 1) := dc_3 (by decide +kernel)
theorem dX35_openPage_82 : decode cX35_openPage 82 = .ok (.goto 4, 3) := dc_167 (a := 0) (b := 4) (v := 4) (by decide +kernel)
theorem dX35_openPage_85 : decode cX35_openPage 85 = .ok (.iload_n 2, 1) := dc_28 (by decide +kernel)
theorem dX35_openPage_86 : decode cX35_openPage 86 = .ok (.putfield 1028, 3) := dc_181 (a := 4) (b := 4) (n := 1028) (by decide +kernel)
theorem dX35_openPage_89 : decode cX35_openPage 89 = .ok (.goto (-89), 3) := dc_167 (a := 255) (b := 167) (v := -89) (by decide +kernel)
theorem dX35_openPage_92 : decode cX35_openPage 92 = .ok (.aload_n 0, 1) := dc_42 (by decide +kernel)
theorem dX35_openPage_93 : decode cX35_openPage 93 = .ok (.dup, 1) := dc_89 (by decide +kernel)
theorem dX35_openPage_94 : decode cX35_openPage 94 = .ok (.getfield 382, 3) := dc_180 (a := 1) (b := 126) (n := 382) (by decide +kernel)
theorem dX35_openPage_97 : decode cX35_openPage 97 = .ok (.iconst 1, 1) := dc_4 (by decide +kernel)
theorem dX35_openPage_98 : decode cX35_openPage 98 = .ok (.iadd, 1) := dc_96 (by decide +kernel)
theorem dX35_openPage_99 : decode cX35_openPage 99 = .ok (.putfield 382, 3) := dc_181 (a := 1) (b := 126) (n := 382) (by decide +kernel)
theorem dX35_openPage_102 : decode cX35_openPage 102 = .ok (.goto (-102), 3) := dc_167 (a := 255) (b := 154) (v := -102) (by decide +kernel)
theorem dX35_openPage_105 : decode cX35_openPage 105 = .ok (.return_, 1) := dc_177 (by decide +kernel)
theorem GX35_376 {w : eW} {d : Nat} {Y : eY} {pc : Nat} {ls : eL} {st : List Value} {h : eH} {Q : eO → eH → Prop} {a : Nat} {x : Int32} (hf : g_I 34 h a 86 = some x) (hd : decode Y.2.1 pc = .ok (.getfield 376, 3)) (hY : Y.1.cls = RX35) (kk : wp w d Y (pc + 3) ls (.int x :: st) h Q) : wp w d Y pc ls (.ref a :: st) h Q := x_gI (ci := 34) (k := 86) hf hd rfl (by decide) (by rw [hY]; exact q4587) kk
theorem GX35_379 {w : eW} {d : Nat} {Y : eY} {pc : Nat} {ls : eL} {st : List Value} {h : eH} {Q : eO → eH → Prop} {a : Nat} {x : Int32} (hf : g_I 34 h a 94 = some x) (hd : decode Y.2.1 pc = .ok (.getfield 379, 3)) (hY : Y.1.cls = RX35) (kk : wp w d Y (pc + 3) ls (.int x :: st) h Q) : wp w d Y pc ls (.ref a :: st) h Q := x_gI (ci := 34) (k := 94) hf hd rfl (by decide) (by rw [hY]; exact q4595) kk
theorem SX35_1028 {w : eW} {d : Nat} {Y : eY} {pc : Nat} {ls : eL} {st : List Value} {h : eH} {Q : eO → eH → Prop} {a : Nat} {h' : eH} {x : Int32} (hf : p_V 34 h a 100 (.int x) = some h') (hd : decode Y.2.1 pc = .ok (.putfield 1028, 3)) (hY : Y.1.cls = RX35) (kk : wp w d Y (pc + 3) ls st h' Q) : wp w d Y pc ls (.int x :: .ref a :: st) h Q := x_pI (ci := 34) (k := 100) hf hd rfl (by decide) (by rw [hY]; exact q4601) rfl rfl kk
theorem SX35_1031 {w : eW} {d : Nat} {Y : eY} {pc : Nat} {ls : eL} {st : List Value} {h : eH} {Q : eO → eH → Prop} {a : Nat} {h' : eH} {x : Int32} (hf : p_V 34 h a 99 (.int x) = some h') (hd : decode Y.2.1 pc = .ok (.putfield 1031, 3)) (hY : Y.1.cls = RX35) (kk : wp w d Y (pc + 3) ls st h' Q) : wp w d Y pc ls (.int x :: .ref a :: st) h Q := x_pI (ci := 34) (k := 99) hf hd rfl (by decide) (by rw [hY]; exact q4600) rfl rfl kk
theorem SX35_1049 {w : eW} {d : Nat} {Y : eY} {pc : Nat} {ls : eL} {st : List Value} {h : eH} {Q : eO → eH → Prop} {a : Nat} {h' : eH} {x : Int32} (hf : p_V 34 h a 98 (.int x) = some h') (hd : decode Y.2.1 pc = .ok (.putfield 1049, 3)) (hY : Y.1.cls = RX35) (kk : wp w d Y (pc + 3) ls st h' Q) : wp w d Y pc ls (.int x :: .ref a :: st) h Q := x_pI (ci := 34) (k := 98) hf hd rfl (by decide) (by rw [hY]; exact q4599) rfl rfl kk
def fX35_openPage_b86 (N : Nat) (k0 : Nat → eH → Option (Unit × eH)) (l0 : Nat) (s0 : Nat) (s1 : Int32) (h : eH) : Option (Unit × eH) :=
  (p_V 34 h s0 100 (.int s1)).bind fun h1 =>
  k0 l0 h1
theorem pX35_openPage_b86 {w : eW} {d : Nat} (hd : 1 ≤ d + 1) {N : Nat} {k0 : Nat → eH → Option (Unit × eH)} (hk0 : ∀ l0 h q, k0 l0 h = some q → wp w (d + 1) YX35_openPage 0 [some (.ref l0), none, none] [] h (e_is (e_rn c_V q))) {l0 : Nat} {s0 : Nat} {s1 : Int32} {h : eH} {q} (hf : fX35_openPage_b86 N k0 l0 s0 s1 h = some q) : wp w (d + 1) YX35_openPage 86 [some (.ref l0), none, none] [.int s1, .ref s0] h (e_is (e_rn c_V q)) := by
  unfold fX35_openPage_b86 at hf
  obtain ⟨h1, b2, hf⟩ := Option.bind_eq_some_iff.mp hf
  refine SX35_1028 b2 dX35_openPage_86 rfl ?_
  refine w_goto 0 dX35_openPage_89 (by decide) ?_
  exact (hk0 _ _ _ hf).to ⟨rfl, trivial⟩
def fX35_openPage_b62 (N : Nat) (k0 : Nat → eH → Option (Unit × eH)) (l0 : Nat) (l2 : Int32) (s0 : Nat) (s1 : Int32) (h : eH) : Option (Unit × eH) :=
  (p_V 34 h s0 98 (.int s1)).bind fun h1 =>
  (k_ok 34 h1 l0).bind fun _ =>
  (fX35_now l0 (3283 : Int32) h1).bind fun q4 =>
  (p_V 34 q4.2 l0 99 (.int q4.1)).bind fun h5 =>
  if 0 ≤ l2 then
    fX35_openPage_b86 N k0 l0 l0 l2 h5
  else
    fX35_openPage_b86 N k0 l0 l0 (0 : Int32) h5
theorem pX35_openPage_b62 {w : eW} {d : Nat} (hd : 1 ≤ d + 1) {N : Nat} {k0 : Nat → eH → Option (Unit × eH)} (hk0 : ∀ l0 h q, k0 l0 h = some q → wp w (d + 1) YX35_openPage 0 [some (.ref l0), none, none] [] h (e_is (e_rn c_V q))) {l0 : Nat} {l2 : Int32} {s0 : Nat} {s1 : Int32} {h : eH} {q} (hf : fX35_openPage_b62 N k0 l0 l2 s0 s1 h = some q) : wp w (d + 1) YX35_openPage 62 [some (.ref l0), none, some (.int l2)] [.int s1, .ref s0] h (e_is (e_rn c_V q)) := by
  unfold fX35_openPage_b62 at hf
  obtain ⟨h1, b2, hf⟩ := Option.bind_eq_some_iff.mp hf
  refine SX35_1049 b2 dX35_openPage_62 rfl ?_
  refine w_aload_n dX35_openPage_65 rfl rfl ?_
  refine w_aload_n dX35_openPage_66 rfl rfl ?_
  refine w_sipush dX35_openPage_67 (v := 3283) (by decide) ?_
  obtain ⟨_, b3, hf⟩ := Option.bind_eq_some_iff.mp hf
  refine x_cnI hf (e_stV (Yc := YX35_now) (ci := 34) (av := [.int (3283 : Int32)]) (st := [.ref l0]) dX35_openPage_70 q5097 mX35_now rfl (k_ok_some b3).1 (k_ok_some b3).2) mX35_now.2.2.1 mX35_now.2.2.2.2.1 (Nat.le_of_ble_eq_true rfl) (Nat.le_of_ble_eq_true rfl) (fun q hq => pX35_now (by omega) hq) (fun q4 hf => ?_)
  obtain ⟨h5, b6, hf⟩ := Option.bind_eq_some_iff.mp hf
  refine SX35_1031 b6 dX35_openPage_73 rfl ?_
  refine w_aload_n dX35_openPage_76 rfl rfl ?_
  refine w_iload_n dX35_openPage_77 rfl rfl ?_
  refine w_if_ge 85 dX35_openPage_78 (by decide) (fun c7 => ?_) (fun c7 => ?_)
  · replace hf := (if_pos (show 0 ≤ l2 from c7)).symm.trans hf
    refine w_iload_n dX35_openPage_85 rfl rfl ?_
    exact (pX35_openPage_b86 hd hk0 hf).to ⟨rfl, trivial⟩
  · replace hf := (if_neg (show ¬ (0 ≤ l2) from c7)).symm.trans hf
    refine w_iconst dX35_openPage_81 (v := 0) (by decide) ?_
    refine w_goto 86 dX35_openPage_82 (by decide) ?_
    exact (pX35_openPage_b86 hd hk0 hf).to ⟨rfl, trivial⟩
def fX35_openPage_b105 (N : Nat)  (h : eH) : Option (Unit × eH) :=
  some ((), h)
theorem pX35_openPage_b105 {w : eW} {d : Nat} (hd : 1 ≤ d + 1) {N : Nat}  {h : eH} {q} (hf : fX35_openPage_b105 N h = some q) : wp w (d + 1) YX35_openPage 105 [none, none, none] [] h (e_is (e_rn c_V q)) := by
  unfold fX35_openPage_b105 at hf
  cases hf
  exact w_vret dX35_openPage_105 rfl rfl
def fX35_openPage_b0 (N : Nat) : Nat → Nat → eH → Option (Unit × eH)
  | 0, _, _ => none
  | n + 1, l0, h =>
    (g_I 34 h l0 94).bind fun x1 =>
    if ¬ x1 = 0 then
      fX35_openPage_b105 N h
    else
      (g_I 34 h l0 95).bind fun x4 =>
      (g_I 34 h l0 86).bind fun x6 =>
      if x6 ≤ x4 then
        fX35_openPage_b105 N h
      else
        (g_A 34 h l0 87).bind fun a9 =>
        (g_I 34 h l0 95).bind fun x11 =>
        (r_I 100 h a9 x11).bind fun x13 =>
        if ¬ x13 = (5 : Int32) then
          (g_I 34 h l0 95).bind fun x16 =>
          (p_V 34 h l0 95 (.int (x16 + (1 : Int32)))).bind fun h18 =>
          fX35_openPage_b0 N n l0 h18
        else
          (p_Z 34 h l0 94 (1 : Int32)).bind fun h20 =>
          (k_ok 34 h20 l0).bind fun _ =>
          (fX35_now l0 (2242 : Int32) h20).bind fun q23 =>
          (k_ok 34 q23.2 l0).bind fun _ =>
          (fX35_now l0 (2245 : Int32) q23.2).bind fun q25 =>
          if 0 ≤ q23.1 then
            fX35_openPage_b62 N (fX35_openPage_b0 N n) l0 q25.1 l0 q23.1 q25.2
          else
            fX35_openPage_b62 N (fX35_openPage_b0 N n) l0 q25.1 l0 (0 : Int32) q25.2
theorem pX35_openPage_b0 {w : eW} {d : Nat} (hd : 1 ≤ d + 1) {N : Nat} : ∀ (n : Nat) l0 h q, fX35_openPage_b0 N n l0 h = some q → wp w (d + 1) YX35_openPage 0 [some (.ref l0), none, none] [] h (e_is (e_rn c_V q)) := by
  intro n
  induction n with
  | zero => intro l0 h q hf; simp [fX35_openPage_b0] at hf
  | succ n ih =>
    intro l0 h q hf
    rw [fX35_openPage_b0] at hf
    refine w_aload_n dX35_openPage_0 rfl rfl ?_
    obtain ⟨x1, b2, hf⟩ := Option.bind_eq_some_iff.mp hf
    refine GX35_379 b2 dX35_openPage_1 rfl ?_
    refine w_if_ne 105 dX35_openPage_4 (by decide) (fun c3 => ?_) (fun c3 => ?_)
    · replace hf := (if_pos (show ¬ x1 = 0 from c3)).symm.trans hf
      exact (pX35_openPage_b105 hd hf).to trivial
    · replace hf := (if_neg (show ¬ (¬ x1 = 0) from (fun z => z c3))).symm.trans hf
      refine w_aload_n dX35_openPage_7 rfl rfl ?_
      obtain ⟨x4, b5, hf⟩ := Option.bind_eq_some_iff.mp hf
      refine GX35_382 b5 dX35_openPage_8 rfl ?_
      refine w_aload_n dX35_openPage_11 rfl rfl ?_
      obtain ⟨x6, b7, hf⟩ := Option.bind_eq_some_iff.mp hf
      refine GX35_376 b7 dX35_openPage_12 rfl ?_
      refine w_icmp_ge 105 dX35_openPage_15 (by decide) (fun c8 => ?_) (fun c8 => ?_)
      · replace hf := (if_pos (show x6 ≤ x4 from c8)).symm.trans hf
        exact (pX35_openPage_b105 hd hf).to trivial
      · replace hf := (if_neg (show ¬ (x6 ≤ x4) from c8)).symm.trans hf
        refine w_aload_n dX35_openPage_18 rfl rfl ?_
        obtain ⟨a9, b10, hf⟩ := Option.bind_eq_some_iff.mp hf
        refine GX35_195 b10 dX35_openPage_19 rfl ?_
        refine w_aload_n dX35_openPage_22 rfl rfl ?_
        obtain ⟨x11, b12, hf⟩ := Option.bind_eq_some_iff.mp hf
        refine GX35_382 b12 dX35_openPage_23 rfl ?_
        obtain ⟨x13, b14, hf⟩ := Option.bind_eq_some_iff.mp hf
        refine x_rI b14 dX35_openPage_26 ?_
        refine w_iconst dX35_openPage_27 (v := 5) (by decide) ?_
        refine w_icmp_ne 92 dX35_openPage_28 (by decide) (fun c15 => ?_) (fun c15 => ?_)
        · replace hf := (if_pos (show ¬ x13 = (5 : Int32) from c15)).symm.trans hf
          refine w_aload_n dX35_openPage_92 rfl rfl ?_
          refine w_dup dX35_openPage_93 rfl ?_
          obtain ⟨x16, b17, hf⟩ := Option.bind_eq_some_iff.mp hf
          refine GX35_382 b17 dX35_openPage_94 rfl ?_
          refine w_iconst dX35_openPage_97 (v := 1) (by decide) ?_
          refine w_iadd dX35_openPage_98 ?_
          obtain ⟨h18, b19, hf⟩ := Option.bind_eq_some_iff.mp hf
          refine SX35_382 b19 dX35_openPage_99 rfl ?_
          refine w_goto 0 dX35_openPage_102 (by decide) ?_
          exact (ih _ _ _ hf).to ⟨rfl, trivial⟩
        · replace hf := (if_neg (show ¬ (¬ x13 = (5 : Int32)) from (fun z => z c15))).symm.trans hf
          refine w_aload_n dX35_openPage_31 rfl rfl ?_
          refine w_iconst dX35_openPage_32 (v := 1) (by decide) ?_
          obtain ⟨h20, b21, hf⟩ := Option.bind_eq_some_iff.mp hf
          refine SX35_379 b21 dX35_openPage_33 rfl ?_
          refine w_aload_n dX35_openPage_36 rfl rfl ?_
          refine w_sipush dX35_openPage_37 (v := 2242) (by decide) ?_
          obtain ⟨_, b22, hf⟩ := Option.bind_eq_some_iff.mp hf
          refine x_cnI hf (e_stV (Yc := YX35_now) (ci := 34) (av := [.int (2242 : Int32)]) (st := []) dX35_openPage_40 q5097 mX35_now rfl (k_ok_some b22).1 (k_ok_some b22).2) mX35_now.2.2.1 mX35_now.2.2.2.2.1 (Nat.le_of_ble_eq_true rfl) (Nat.le_of_ble_eq_true rfl) (fun q hq => pX35_now (by omega) hq) (fun q23 hf => ?_)
          refine w_istore_n dX35_openPage_43 rfl (by decide) (ls' := [some (.ref l0), some (.int q23.1), none]) rfl ?_
          refine w_aload_n dX35_openPage_44 rfl rfl ?_
          refine w_sipush dX35_openPage_45 (v := 2245) (by decide) ?_
          obtain ⟨_, b24, hf⟩ := Option.bind_eq_some_iff.mp hf
          refine x_cnI hf (e_stV (Yc := YX35_now) (ci := 34) (av := [.int (2245 : Int32)]) (st := []) dX35_openPage_48 q5097 mX35_now rfl (k_ok_some b24).1 (k_ok_some b24).2) mX35_now.2.2.1 mX35_now.2.2.2.2.1 (Nat.le_of_ble_eq_true rfl) (Nat.le_of_ble_eq_true rfl) (fun q hq => pX35_now (by omega) hq) (fun q25 hf => ?_)
          refine w_istore_n dX35_openPage_51 rfl (by decide) (ls' := [some (.ref l0), some (.int q23.1), some (.int q25.1)]) rfl ?_
          refine w_aload_n dX35_openPage_52 rfl rfl ?_
          refine w_iload_n dX35_openPage_53 rfl rfl ?_
          refine w_if_ge 61 dX35_openPage_54 (by decide) (fun c26 => ?_) (fun c26 => ?_)
          · replace hf := (if_pos (show 0 ≤ q23.1 from c26)).symm.trans hf
            refine w_iload_n dX35_openPage_61 rfl rfl ?_
            exact (pX35_openPage_b62 hd ih hf).to ⟨rfl, rfl, trivial⟩
          · replace hf := (if_neg (show ¬ (0 ≤ q23.1) from c26)).symm.trans hf
            refine w_iconst dX35_openPage_57 (v := 0) (by decide) ?_
            refine w_goto 62 dX35_openPage_58 (by decide) ?_
            exact (pX35_openPage_b62 hd ih hf).to ⟨rfl, rfl, trivial⟩
def fX35_openPage (N : Nat) (this : Nat) (h : eH) : Option (Unit × eH) :=
  fX35_openPage_b0 N N this h
theorem pX35_openPage {w : eW} {d : Nat} (hd : 1 ≤ d) {N : Nat} {this : Nat} {h : eH} {q} (hf : fX35_openPage N this h = some q) : wm w d YX35_openPage [.ref this] h (e_is (e_rn c_V q)) := by
  obtain ⟨d, rfl⟩ : ∃ e, d = e + 1 := ⟨d - 1, by omega⟩
  show wp w (d + 1) YX35_openPage 0 [some (.ref this), none, none] [] h _
  unfold fX35_openPage at hf
  exact (pX35_openPage_b0 hd N _ _ _ hf).to ⟨rfl, trivial⟩
abbrev cX35_penaltyAt : ByteArray := prog_37_method_152_code
def yX35_penaltyAt : MethodName := ⟨RX35, "penaltyAt", "(I)I"⟩
def YX35_penaltyAt : eY := (yX35_penaltyAt, cX35_penaltyAt, 2, (Option.some FieldType.int), [])
theorem mX35_penaltyAt : e_mv YX35_penaltyAt RX35 1 := ⟨q5495, qs320, q5496, by decide, by decide +kernel, (e_sig (by decide +kernel))⟩
theorem dX35_penaltyAt_0 : decode cX35_penaltyAt 0 = .ok (.aload_n 0, 1) := dc_42 (by decide +kernel)
theorem dX35_penaltyAt_1 : decode cX35_penaltyAt 1 = .ok (.getfield 195, 3) := dc_180 (a := 0) (b := 195) (n := 195) (by decide +kernel)
theorem dX35_penaltyAt_4 : decode cX35_penaltyAt 4 = .ok (.iload_n 1, 1) := dc_27 (by decide +kernel)
theorem dX35_penaltyAt_5 : decode cX35_penaltyAt 5 = .ok (.iaload, 1) := dc_46 (by decide +kernel)
theorem dX35_penaltyAt_6 : decode cX35_penaltyAt 6 = .ok (.iconst 2, 1) := dc_5 (by decide +kernel)
theorem dX35_penaltyAt_7 : decode cX35_penaltyAt 7 = .ok (.if_icmp .ne 23, 3) := dc_160 (a := 0) (b := 23) (v := 23) (by decide +kernel)
theorem dX35_penaltyAt_10 : decode cX35_penaltyAt 10 = .ok (.aload_n 0, 1) := dc_42 (by decide +kernel)
theorem dX35_penaltyAt_11 : decode cX35_penaltyAt 11 = .ok (.getfield 195, 3) := dc_180 (a := 0) (b := 195) (n := 195) (by decide +kernel)
theorem dX35_penaltyAt_14 : decode cX35_penaltyAt 14 = .ok (.iload_n 1, 1) := dc_27 (by decide +kernel)
theorem dX35_penaltyAt_15 : decode cX35_penaltyAt 15 = .ok (.iconst 1, 1) := dc_4 (by decide +kernel)
theorem dX35_penaltyAt_16 : decode cX35_penaltyAt 16 = .ok (.isub, 1) := dc_100 (by decide +kernel)
theorem dX35_penaltyAt_17 : decode cX35_penaltyAt 17 = .ok (.iaload, 1) := dc_46 (by decide +kernel)
theorem dX35_penaltyAt_18 : decode cX35_penaltyAt 18 = .ok (.iconst 5, 1) := dc_8 (by decide +kernel)
theorem dX35_penaltyAt_19 : decode cX35_penaltyAt 19 = .ok (.if_icmp .ne 7, 3) := dc_160 (a := 0) (b := 7) (v := 7) (by decide +kernel)
theorem dX35_penaltyAt_22 : decode cX35_penaltyAt 22 = .ok (.iconst 0, 1) := dc_3 (by decide +kernel)
theorem dX35_penaltyAt_23 : decode cX35_penaltyAt 23 = .ok (.goto 6, 3) := dc_167 (a := 0) (b := 6) (v := 6) (by decide +kernel)
theorem dX35_penaltyAt_26 : decode cX35_penaltyAt 26 = .ok (.sipush 10000, 3) := dc_17 (a := 39) (b := 16) (v := 10000) (by decide +kernel)
theorem dX35_penaltyAt_29 : decode cX35_penaltyAt 29 = .ok (.ireturn, 1) := dc_172 (by decide +kernel)
theorem dX35_penaltyAt_30 : decode cX35_penaltyAt 30 = .ok (.aload_n 0, 1) := dc_42 (by decide +kernel)
theorem dX35_penaltyAt_31 : decode cX35_penaltyAt 31 = .ok (.getfield 195, 3) := dc_180 (a := 0) (b := 195) (n := 195) (by decide +kernel)
theorem dX35_penaltyAt_34 : decode cX35_penaltyAt 34 = .ok (.iload_n 1, 1) := dc_27 (by decide +kernel)
theorem dX35_penaltyAt_35 : decode cX35_penaltyAt 35 = .ok (.iaload, 1) := dc_46 (by decide +kernel)
theorem dX35_penaltyAt_36 : decode cX35_penaltyAt 36 = .ok (.iconst 3, 1) := dc_6 (by decide +kernel)
theorem dX35_penaltyAt_37 : decode cX35_penaltyAt 37 = .ok (.if_icmp .ne 33, 3) := dc_160 (a := 0) (b := 33) (v := 33) (by decide +kernel)
theorem dX35_penaltyAt_40 : decode cX35_penaltyAt 40 = .ok (.iload_n 1, 1) := dc_27 (by decide +kernel)
theorem dX35_penaltyAt_41 : decode cX35_penaltyAt 41 = .ok (.iconst 1, 1) := dc_4 (by decide +kernel)
theorem dX35_penaltyAt_42 : decode cX35_penaltyAt 42 = .ok (.iadd, 1) := dc_96 (by decide +kernel)
theorem dX35_penaltyAt_43 : decode cX35_penaltyAt 43 = .ok (.aload_n 0, 1) := dc_42 (by decide +kernel)
theorem dX35_penaltyAt_44 : decode cX35_penaltyAt 44 = .ok (.getfield 376, 3) := dc_180 (a := 1) (b := 120) (n := 376) (by decide +kernel)
theorem dX35_penaltyAt_47 : decode cX35_penaltyAt 47 = .ok (.if_icmp .ge 19, 3) := dc_162 (a := 0) (b := 19) (v := 19) (by decide +kernel)
theorem dX35_penaltyAt_50 : decode cX35_penaltyAt 50 = .ok (.aload_n 0, 1) := dc_42 (by decide +kernel)
theorem dX35_penaltyAt_51 : decode cX35_penaltyAt 51 = .ok (.getfield 195, 3) := dc_180 (a := 0) (b := 195) (n := 195) (by decide +kernel)
theorem dX35_penaltyAt_54 : decode cX35_penaltyAt 54 = .ok (.iload_n 1, 1) := dc_27 (by decide +kernel)
theorem dX35_penaltyAt_55 : decode cX35_penaltyAt 55 = .ok (.iconst 1, 1) := dc_4 (by decide +kernel)
theorem dX35_penaltyAt_56 : decode cX35_penaltyAt 56 = .ok (.iadd, 1) := dc_96 (by decide +kernel)
theorem dX35_penaltyAt_57 : decode cX35_penaltyAt 57 = .ok (.iaload, 1) := dc_46 (by decide +kernel)
theorem dX35_penaltyAt_58 : decode cX35_penaltyAt 58 = .ok (.iconst 2, 1) := dc_5 (by decide +kernel)
theorem dX35_penaltyAt_59 : decode cX35_penaltyAt 59 = .ok (.if_icmp .ne 7, 3) := dc_160 (a := 0) (b := 7) (v := 7) (by decide +kernel)
theorem dX35_penaltyAt_62 : decode cX35_penaltyAt 62 = .ok (.iconst 0, 1) := dc_3 (by decide +kernel)
theorem dX35_penaltyAt_63 : decode cX35_penaltyAt 63 = .ok (.goto 6, 3) := dc_167 (a := 0) (b := 6) (v := 6) (by decide +kernel)
theorem dX35_penaltyAt_66 : decode cX35_penaltyAt 66 = .ok (.sipush 10000, 3) := dc_17 (a := 39) (b := 16) (v := 10000) (by decide +kernel)
theorem dX35_penaltyAt_69 : decode cX35_penaltyAt 69 = .ok (.ireturn, 1) := dc_172 (by decide +kernel)
theorem dX35_penaltyAt_70 : decode cX35_penaltyAt 70 = .ok (.aload_n 0, 1) := dc_42 (by decide +kernel)
theorem dX35_penaltyAt_71 : decode cX35_penaltyAt 71 = .ok (.getfield 195, 3) := dc_180 (a := 0) (b := 195) (n := 195) (by decide +kernel)
theorem dX35_penaltyAt_74 : decode cX35_penaltyAt 74 = .ok (.iload_n 1, 1) := dc_27 (by decide +kernel)
theorem dX35_penaltyAt_75 : decode cX35_penaltyAt 75 = .ok (.iaload, 1) := dc_46 (by decide +kernel)
theorem dX35_penaltyAt_76 : decode cX35_penaltyAt 76 = .ok (.iconst 4, 1) := dc_7 (by decide +kernel)
theorem dX35_penaltyAt_77 : decode cX35_penaltyAt 77 = .ok (.if_icmp .ne 12, 3) := dc_160 (a := 0) (b := 12) (v := 12) (by decide +kernel)
theorem dX35_penaltyAt_80 : decode cX35_penaltyAt 80 = .ok (.aload_n 0, 1) := dc_42 (by decide +kernel)
theorem dX35_penaltyAt_81 : decode cX35_penaltyAt 81 = .ok (.getfield 198, 3) := dc_180 (a := 0) (b := 198) (n := 198) (by decide +kernel)
theorem dX35_penaltyAt_84 : decode cX35_penaltyAt 84 = .ok (.iload_n 1, 1) := dc_27 (by decide +kernel)
theorem dX35_penaltyAt_85 : decode cX35_penaltyAt 85 = .ok (.iaload, 1) := dc_46 (by decide +kernel)
theorem dX35_penaltyAt_86 : decode cX35_penaltyAt 86 = .ok (.goto 6, 3) := dc_167 (a := 0) (b := 6) (v := 6) (by decide +kernel)
theorem dX35_penaltyAt_89 : decode cX35_penaltyAt 89 = .ok (.sipush 10000, 3) := dc_17 (a := 39) (b := 16) (v := 10000) (by decide +kernel)
theorem dX35_penaltyAt_92 : decode cX35_penaltyAt 92 = .ok (.ireturn, 1) := dc_172 (by decide +kernel)
def fX35_penaltyAt_b29 (s0 : Int32) (h : eH) : Option (Int32 × eH) :=
  some (s0, h)
theorem pX35_penaltyAt_b29 {w : eW} {d : Nat} (hd : 0 ≤ d) {s0 : Int32} {h : eH} {q} (hf : fX35_penaltyAt_b29 s0 h = some q) : wp w d YX35_penaltyAt 29 [none, none] [.int s0] h (e_is (e_rn c_I q)) := by
  unfold fX35_penaltyAt_b29 at hf
  cases hf
  exact w_iret dX35_penaltyAt_29 rfl rfl rfl
def fX35_penaltyAt_b69 (s0 : Int32) (h : eH) : Option (Int32 × eH) :=
  some (s0, h)
theorem pX35_penaltyAt_b69 {w : eW} {d : Nat} (hd : 0 ≤ d) {s0 : Int32} {h : eH} {q} (hf : fX35_penaltyAt_b69 s0 h = some q) : wp w d YX35_penaltyAt 69 [none, none] [.int s0] h (e_is (e_rn c_I q)) := by
  unfold fX35_penaltyAt_b69 at hf
  cases hf
  exact w_iret dX35_penaltyAt_69 rfl rfl rfl
def fX35_penaltyAt_b66  (h : eH) : Option (Int32 × eH) :=
  fX35_penaltyAt_b69 (10000 : Int32) h
theorem pX35_penaltyAt_b66 {w : eW} {d : Nat} (hd : 0 ≤ d)  {h : eH} {q} (hf : fX35_penaltyAt_b66  h = some q) : wp w d YX35_penaltyAt 66 [none, none] [] h (e_is (e_rn c_I q)) := by
  unfold fX35_penaltyAt_b66 at hf
  refine w_sipush dX35_penaltyAt_66 (v := 10000) (by decide) ?_
  exact (pX35_penaltyAt_b69 hd hf).to trivial
def fX35_penaltyAt_b92 (s0 : Int32) (h : eH) : Option (Int32 × eH) :=
  some (s0, h)
theorem pX35_penaltyAt_b92 {w : eW} {d : Nat} (hd : 0 ≤ d) {s0 : Int32} {h : eH} {q} (hf : fX35_penaltyAt_b92 s0 h = some q) : wp w d YX35_penaltyAt 92 [none, none] [.int s0] h (e_is (e_rn c_I q)) := by
  unfold fX35_penaltyAt_b92 at hf
  cases hf
  exact w_iret dX35_penaltyAt_92 rfl rfl rfl
def fX35_penaltyAt (this : Nat) (p0 : Int32) (h : eH) : Option (Int32 × eH) :=
  (g_A 34 h this 87).bind fun a1 =>
  (r_I 100 h a1 p0).bind fun x3 =>
  if ¬ x3 = (2 : Int32) then
    (g_A 34 h this 87).bind fun a6 =>
    (r_I 100 h a6 p0).bind fun x8 =>
    if ¬ x8 = (3 : Int32) then
      (g_A 34 h this 87).bind fun a11 =>
      (r_I 100 h a11 p0).bind fun x13 =>
      if ¬ x13 = (4 : Int32) then
        fX35_penaltyAt_b92 (10000 : Int32) h
      else
        (g_A 34 h this 88).bind fun a16 =>
        (r_I 100 h a16 p0).bind fun x18 =>
        fX35_penaltyAt_b92 x18 h
    else
      (g_I 34 h this 86).bind fun x20 =>
      if x20 ≤ (p0 + (1 : Int32)) then
        fX35_penaltyAt_b66 h
      else
        (g_A 34 h this 87).bind fun a23 =>
        (r_I 100 h a23 (p0 + (1 : Int32))).bind fun x25 =>
        if ¬ x25 = (2 : Int32) then
          fX35_penaltyAt_b66 h
        else
          fX35_penaltyAt_b69 (0 : Int32) h
  else
    (g_A 34 h this 87).bind fun a28 =>
    (r_I 100 h a28 (p0 - (1 : Int32))).bind fun x30 =>
    if ¬ x30 = (5 : Int32) then
      fX35_penaltyAt_b29 (10000 : Int32) h
    else
      fX35_penaltyAt_b29 (0 : Int32) h
theorem pX35_penaltyAt {w : eW} {d : Nat} (hd : 0 ≤ d) {this : Nat} {p0 : Int32} {h : eH} {q} (hf : fX35_penaltyAt this p0 h = some q) : wm w d YX35_penaltyAt [.ref this, .int p0] h (e_is (e_rn c_I q)) := by
  show wp w d YX35_penaltyAt 0 [some (.ref this), some (.int p0)] [] h _
  unfold fX35_penaltyAt at hf
  refine w_aload_n dX35_penaltyAt_0 rfl rfl ?_
  obtain ⟨a1, b2, hf⟩ := Option.bind_eq_some_iff.mp hf
  refine GX35_195 b2 dX35_penaltyAt_1 rfl ?_
  refine w_iload_n dX35_penaltyAt_4 rfl rfl ?_
  obtain ⟨x3, b4, hf⟩ := Option.bind_eq_some_iff.mp hf
  refine x_rI b4 dX35_penaltyAt_5 ?_
  refine w_iconst dX35_penaltyAt_6 (v := 2) (by decide) ?_
  refine w_icmp_ne 30 dX35_penaltyAt_7 (by decide) (fun c5 => ?_) (fun c5 => ?_)
  · replace hf := (if_pos (show ¬ x3 = (2 : Int32) from c5)).symm.trans hf
    refine w_aload_n dX35_penaltyAt_30 rfl rfl ?_
    obtain ⟨a6, b7, hf⟩ := Option.bind_eq_some_iff.mp hf
    refine GX35_195 b7 dX35_penaltyAt_31 rfl ?_
    refine w_iload_n dX35_penaltyAt_34 rfl rfl ?_
    obtain ⟨x8, b9, hf⟩ := Option.bind_eq_some_iff.mp hf
    refine x_rI b9 dX35_penaltyAt_35 ?_
    refine w_iconst dX35_penaltyAt_36 (v := 3) (by decide) ?_
    refine w_icmp_ne 70 dX35_penaltyAt_37 (by decide) (fun c10 => ?_) (fun c10 => ?_)
    · replace hf := (if_pos (show ¬ x8 = (3 : Int32) from c10)).symm.trans hf
      refine w_aload_n dX35_penaltyAt_70 rfl rfl ?_
      obtain ⟨a11, b12, hf⟩ := Option.bind_eq_some_iff.mp hf
      refine GX35_195 b12 dX35_penaltyAt_71 rfl ?_
      refine w_iload_n dX35_penaltyAt_74 rfl rfl ?_
      obtain ⟨x13, b14, hf⟩ := Option.bind_eq_some_iff.mp hf
      refine x_rI b14 dX35_penaltyAt_75 ?_
      refine w_iconst dX35_penaltyAt_76 (v := 4) (by decide) ?_
      refine w_icmp_ne 89 dX35_penaltyAt_77 (by decide) (fun c15 => ?_) (fun c15 => ?_)
      · replace hf := (if_pos (show ¬ x13 = (4 : Int32) from c15)).symm.trans hf
        refine w_sipush dX35_penaltyAt_89 (v := 10000) (by decide) ?_
        exact (pX35_penaltyAt_b92 hd hf).to trivial
      · replace hf := (if_neg (show ¬ (¬ x13 = (4 : Int32)) from (fun z => z c15))).symm.trans hf
        refine w_aload_n dX35_penaltyAt_80 rfl rfl ?_
        obtain ⟨a16, b17, hf⟩ := Option.bind_eq_some_iff.mp hf
        refine GX35_198 b17 dX35_penaltyAt_81 rfl ?_
        refine w_iload_n dX35_penaltyAt_84 rfl rfl ?_
        obtain ⟨x18, b19, hf⟩ := Option.bind_eq_some_iff.mp hf
        refine x_rI b19 dX35_penaltyAt_85 ?_
        refine w_goto 92 dX35_penaltyAt_86 (by decide) ?_
        exact (pX35_penaltyAt_b92 hd hf).to trivial
    · replace hf := (if_neg (show ¬ (¬ x8 = (3 : Int32)) from (fun z => z c10))).symm.trans hf
      refine w_iload_n dX35_penaltyAt_40 rfl rfl ?_
      refine w_iconst dX35_penaltyAt_41 (v := 1) (by decide) ?_
      refine w_iadd dX35_penaltyAt_42 ?_
      refine w_aload_n dX35_penaltyAt_43 rfl rfl ?_
      obtain ⟨x20, b21, hf⟩ := Option.bind_eq_some_iff.mp hf
      refine GX35_376 b21 dX35_penaltyAt_44 rfl ?_
      refine w_icmp_ge 66 dX35_penaltyAt_47 (by decide) (fun c22 => ?_) (fun c22 => ?_)
      · replace hf := (if_pos (show x20 ≤ (p0 + (1 : Int32)) from c22)).symm.trans hf
        exact (pX35_penaltyAt_b66 hd hf).to trivial
      · replace hf := (if_neg (show ¬ (x20 ≤ (p0 + (1 : Int32))) from c22)).symm.trans hf
        refine w_aload_n dX35_penaltyAt_50 rfl rfl ?_
        obtain ⟨a23, b24, hf⟩ := Option.bind_eq_some_iff.mp hf
        refine GX35_195 b24 dX35_penaltyAt_51 rfl ?_
        refine w_iload_n dX35_penaltyAt_54 rfl rfl ?_
        refine w_iconst dX35_penaltyAt_55 (v := 1) (by decide) ?_
        refine w_iadd dX35_penaltyAt_56 ?_
        obtain ⟨x25, b26, hf⟩ := Option.bind_eq_some_iff.mp hf
        refine x_rI b26 dX35_penaltyAt_57 ?_
        refine w_iconst dX35_penaltyAt_58 (v := 2) (by decide) ?_
        refine w_icmp_ne 66 dX35_penaltyAt_59 (by decide) (fun c27 => ?_) (fun c27 => ?_)
        · replace hf := (if_pos (show ¬ x25 = (2 : Int32) from c27)).symm.trans hf
          exact (pX35_penaltyAt_b66 hd hf).to trivial
        · replace hf := (if_neg (show ¬ (¬ x25 = (2 : Int32)) from (fun z => z c27))).symm.trans hf
          refine w_iconst dX35_penaltyAt_62 (v := 0) (by decide) ?_
          refine w_goto 69 dX35_penaltyAt_63 (by decide) ?_
          exact (pX35_penaltyAt_b69 hd hf).to trivial
  · replace hf := (if_neg (show ¬ (¬ x3 = (2 : Int32)) from (fun z => z c5))).symm.trans hf
    refine w_aload_n dX35_penaltyAt_10 rfl rfl ?_
    obtain ⟨a28, b29, hf⟩ := Option.bind_eq_some_iff.mp hf
    refine GX35_195 b29 dX35_penaltyAt_11 rfl ?_
    refine w_iload_n dX35_penaltyAt_14 rfl rfl ?_
    refine w_iconst dX35_penaltyAt_15 (v := 1) (by decide) ?_
    refine w_isub dX35_penaltyAt_16 ?_
    obtain ⟨x30, b31, hf⟩ := Option.bind_eq_some_iff.mp hf
    refine x_rI b31 dX35_penaltyAt_17 ?_
    refine w_iconst dX35_penaltyAt_18 (v := 5) (by decide) ?_
    refine w_icmp_ne 26 dX35_penaltyAt_19 (by decide) (fun c32 => ?_) (fun c32 => ?_)
    · replace hf := (if_pos (show ¬ x30 = (5 : Int32) from c32)).symm.trans hf
      refine w_sipush dX35_penaltyAt_26 (v := 10000) (by decide) ?_
      exact (pX35_penaltyAt_b29 hd hf).to trivial
    · replace hf := (if_neg (show ¬ (¬ x30 = (5 : Int32)) from (fun z => z c32))).symm.trans hf
      refine w_iconst dX35_penaltyAt_22 (v := 0) (by decide) ?_
      refine w_goto 29 dX35_penaltyAt_23 (by decide) ?_
      exact (pX35_penaltyAt_b29 hd hf).to trivial
abbrev cX35_cost : ByteArray := prog_37_method_151_code
def yX35_cost : MethodName := ⟨RX35, "cost", "(I)I"⟩
def YX35_cost : eY := (yX35_cost, cX35_cost, 3, (Option.some FieldType.int), [])
theorem mX35_cost : e_mv YX35_cost RX35 1 := ⟨q5499, qs321, q5500, by decide, by decide +kernel, (e_sig (by decide +kernel))⟩
theorem dX35_cost_0 : decode cX35_cost 0 = .ok (.aload_n 0, 1) := dc_42 (by decide +kernel)
theorem dX35_cost_1 : decode cX35_cost 1 = .ok (.invokevirtual 1056, 3) := dc_182 (a := 4) (b := 32) (n := 1056) (by decide +kernel)
theorem dX35_cost_4 : decode cX35_cost 4 = .ok (.istore_n 2, 1) := dc_61 (by decide +kernel)
theorem dX35_cost_5 : decode cX35_cost 5 = .ok (.iload_n 2, 1) := dc_28 (by decide +kernel)
theorem dX35_cost_6 : decode cX35_cost 6 = .ok (.ldc_w 388, 3) := dc_19 (a := 1) (b := 132) (n := 388) (by decide +kernel)
theorem dX35_cost_9 : decode cX35_cost 9 = .ok (.if_icmp .ne 9, 3) := dc_160 (a := 0) (b := 9) (v := 9) (by decide +kernel)
theorem dX35_cost_12 : decode cX35_cost 12 = .ok (.ldc_w 388, 3) := dc_19 (a := 1) (b := 132) (n := 388) (by decide +kernel)
theorem dX35_cost_15 : decode cX35_cost 15 = .ok (.goto 29, 3) := dc_167 (a := 0) (b := 29) (v := 29) (by decide +kernel)
theorem dX35_cost_18 : decode cX35_cost 18 = .ok (.iload_n 1, 1) := dc_27 (by decide +kernel)
theorem dX35_cost_19 : decode cX35_cost 19 = .ok (.sipush (-10000), 3) := dc_17 (a := 216) (b := 240) (v := -10000) (by decide +kernel)
theorem dX35_cost_22 : decode cX35_cost 22 = .ok (.if_icmp .gt 7, 3) := dc_163 (a := 0) (b := 7) (v := 7) (by decide +kernel)
theorem dX35_cost_25 : decode cX35_cost 25 = .ok (.iload_n 1, 1) := dc_27 (by decide +kernel)
theorem dX35_cost_26 : decode cX35_cost 26 = .ok (.goto 18, 3) := dc_167 (a := 0) (b := 18) (v := 18) (by decide +kernel)
theorem dX35_cost_29 : decode cX35_cost 29 = .ok (.iload_n 2, 1) := dc_28 (by decide +kernel)
theorem dX35_cost_30 : decode cX35_cost 30 = .ok (.sipush 10000, 3) := dc_17 (a := 39) (b := 16) (v := 10000) (by decide +kernel)
theorem dX35_cost_33 : decode cX35_cost 33 = .ok (.if_icmp .ge 9, 3) := dc_162 (a := 0) (b := 9) (v := 9) (by decide +kernel)
theorem dX35_cost_36 : decode cX35_cost 36 = .ok (.iload_n 2, 1) := dc_28 (by decide +kernel)
theorem dX35_cost_37 : decode cX35_cost 37 = .ok (.iload_n 1, 1) := dc_27 (by decide +kernel)
theorem dX35_cost_38 : decode cX35_cost 38 = .ok (.iadd, 1) := dc_96 (by decide +kernel)
theorem dX35_cost_39 : decode cX35_cost 39 = .ok (.goto 5, 3) := dc_167 (a := 0) (b := 5) (v := 5) (by decide +kernel)
theorem dX35_cost_42 : decode cX35_cost 42 = .ok (.ldc 14, 2) := dc_18 (a := 14) (by decide +kernel)
theorem dX35_cost_44 : decode cX35_cost 44 = .ok (.ireturn, 1) := dc_172 (by decide +kernel)
def fX35_cost_b44 (s0 : Int32) (h : eH) : Option (Int32 × eH) :=
  some (s0, h)
theorem pX35_cost_b44 {w : eW} {d : Nat} (hd : 2 ≤ d + 1) {s0 : Int32} {h : eH} {q} (hf : fX35_cost_b44 s0 h = some q) : wp w (d + 1) YX35_cost 44 [none, none, none] [.int s0] h (e_is (e_rn c_I q)) := by
  unfold fX35_cost_b44 at hf
  cases hf
  exact w_iret dX35_cost_44 rfl rfl rfl
def fX35_cost (this : Nat) (p0 : Int32) (h : eH) : Option (Int32 × eH) :=
  (k_ok 34 h this).bind fun _ =>
  (fX35_badness this h).bind fun q2 =>
  if ¬ q2.1 = (1073741823 : Int32) then
    if (-10000 : Int32) < p0 then
      if (10000 : Int32) ≤ q2.1 then
        fX35_cost_b44 (100000 : Int32) q2.2
      else
        fX35_cost_b44 (q2.1 + p0) q2.2
    else
      fX35_cost_b44 p0 q2.2
  else
    fX35_cost_b44 (1073741823 : Int32) q2.2
theorem pX35_cost {w : eW} {d : Nat} (hd : 2 ≤ d) {this : Nat} {p0 : Int32} {h : eH} {q} (hf : fX35_cost this p0 h = some q) : wm w d YX35_cost [.ref this, .int p0] h (e_is (e_rn c_I q)) := by
  obtain ⟨d, rfl⟩ : ∃ e, d = e + 1 := ⟨d - 1, by omega⟩
  show wp w (d + 1) YX35_cost 0 [some (.ref this), some (.int p0), none] [] h _
  unfold fX35_cost at hf
  refine w_aload_n dX35_cost_0 rfl rfl ?_
  obtain ⟨_, b1, hf⟩ := Option.bind_eq_some_iff.mp hf
  refine x_cnI hf (e_stV (Yc := YX35_badness) (ci := 34) (av := []) (st := []) dX35_cost_1 q5501 mX35_badness rfl (k_ok_some b1).1 (k_ok_some b1).2) mX35_badness.2.2.1 mX35_badness.2.2.2.2.1 (Nat.le_of_ble_eq_true rfl) (Nat.le_of_ble_eq_true rfl) (fun q hq => pX35_badness (by omega) hq) (fun q2 hf => ?_)
  refine w_istore_n dX35_cost_4 rfl (by decide) (ls' := [some (.ref this), some (.int p0), some (.int q2.1)]) rfl ?_
  refine w_iload_n dX35_cost_5 rfl rfl ?_
  refine w_ldc_w dX35_cost_6 q4479 ?_
  refine w_icmp_ne 18 dX35_cost_9 (by decide) (fun c3 => ?_) (fun c3 => ?_)
  · replace hf := (if_pos (show ¬ q2.1 = (1073741823 : Int32) from c3)).symm.trans hf
    refine w_iload_n dX35_cost_18 rfl rfl ?_
    refine w_sipush dX35_cost_19 (v := -10000) (by decide) ?_
    refine w_icmp_gt 29 dX35_cost_22 (by decide) (fun c4 => ?_) (fun c4 => ?_)
    · replace hf := (if_pos (show (-10000 : Int32) < p0 from c4)).symm.trans hf
      refine w_iload_n dX35_cost_29 rfl rfl ?_
      refine w_sipush dX35_cost_30 (v := 10000) (by decide) ?_
      refine w_icmp_ge 42 dX35_cost_33 (by decide) (fun c5 => ?_) (fun c5 => ?_)
      · replace hf := (if_pos (show (10000 : Int32) ≤ q2.1 from c5)).symm.trans hf
        refine w_ldc dX35_cost_42 q4120 ?_
        exact (pX35_cost_b44 hd hf).to trivial
      · replace hf := (if_neg (show ¬ ((10000 : Int32) ≤ q2.1) from c5)).symm.trans hf
        refine w_iload_n dX35_cost_36 rfl rfl ?_
        refine w_iload_n dX35_cost_37 rfl rfl ?_
        refine w_iadd dX35_cost_38 ?_
        refine w_goto 44 dX35_cost_39 (by decide) ?_
        exact (pX35_cost_b44 hd hf).to trivial
    · replace hf := (if_neg (show ¬ ((-10000 : Int32) < p0) from c4)).symm.trans hf
      refine w_iload_n dX35_cost_25 rfl rfl ?_
      refine w_goto 44 dX35_cost_26 (by decide) ?_
      exact (pX35_cost_b44 hd hf).to trivial
  · replace hf := (if_neg (show ¬ (¬ q2.1 = (1073741823 : Int32)) from (fun z => z c3))).symm.trans hf
    refine w_ldc_w dX35_cost_12 q4479 ?_
    refine w_goto 44 dX35_cost_15 (by decide) ?_
    exact (pX35_cost_b44 hd hf).to trivial
abbrev cX35_breaks : ByteArray := prog_37_method_154_code
def yX35_breaks : MethodName := ⟨RX35, "breaks", "()Z"⟩
def YX35_breaks : eY := (yX35_breaks, cX35_breaks, 4, (Option.some FieldType.boolean), [])
theorem mX35_breaks : e_mv YX35_breaks RX35 0 := ⟨q5479, qs316, q5480, by decide, by decide +kernel, (e_sig (by decide +kernel))⟩
theorem dX35_breaks_0 : decode cX35_breaks 0 = .ok (.aload_n 0, 1) := dc_42 (by decide +kernel)
theorem dX35_breaks_1 : decode cX35_breaks 1 = .ok (.iconst (-1), 1) := dc_2 (by decide +kernel)
theorem dX35_breaks_2 : decode cX35_breaks 2 = .ok (.putfield 385, 3) := dc_181 (a := 1) (b := 129) (n := 385) (by decide +kernel)
theorem dX35_breaks_5 : decode cX35_breaks 5 = .ok (.aload_n 0, 1) := dc_42 (by decide +kernel)
theorem dX35_breaks_6 : decode cX35_breaks 6 = .ok (.ldc_w 388, 3) := dc_19 (a := 1) (b := 132) (n := 388) (by decide +kernel)
theorem dX35_breaks_9 : decode cX35_breaks 9 = .ok (.putfield 389, 3) := dc_181 (a := 1) (b := 133) (n := 389) (by decide +kernel)
theorem dX35_breaks_12 : decode cX35_breaks 12 = .ok (.aload_n 0, 1) := dc_42 (by decide +kernel)
theorem dX35_breaks_13 : decode cX35_breaks 13 = .ok (.getfield 379, 3) := dc_180 (a := 1) (b := 123) (n := 379) (by decide +kernel)
theorem dX35_breaks_16 : decode cX35_breaks 16 = .ok (.ifCond .ne 5, 3) := dc_154 (a := 0) (b := 5) (v := 5) (by decide +kernel)
theorem dX35_breaks_19 : decode cX35_breaks 19 = .ok (.iconst 0, 1) := dc_3 (by decide +kernel)
theorem dX35_breaks_20 : decode cX35_breaks 20 = .ok (.ireturn, 1) := dc_172 (by decide +kernel)
theorem dX35_breaks_21 : decode cX35_breaks 21 = .ok (.aload_n 0, 1) := dc_42 (by decide +kernel)
theorem dX35_breaks_22 : decode cX35_breaks 22 = .ok (.aload_n 0, 1) := dc_42 (by decide +kernel)
theorem dX35_breaks_23 : decode cX35_breaks 23 = .ok (.getfield 382, 3) := dc_180 (a := 1) (b := 126) (n := 382) (by decide +kernel)
theorem dX35_breaks_26 : decode cX35_breaks 26 = .ok (.iconst 1, 1) := dc_4 (by decide +kernel)
theorem dX35_breaks_27 : decode cX35_breaks 27 = .ok (.iadd, 1) := dc_96 (by decide +kernel)
theorem dX35_breaks_28 : decode cX35_breaks 28 = .ok (.invokevirtual 1059, 3) := dc_182 (a := 4) (b := 35) (n := 1059) (by decide +kernel)
theorem dX35_breaks_31 : decode cX35_breaks 31 = .ok (.aload_n 0, 1) := dc_42 (by decide +kernel)
theorem dX35_breaks_32 : decode cX35_breaks 32 = .ok (.getfield 382, 3) := dc_180 (a := 1) (b := 126) (n := 382) (by decide +kernel)
theorem dX35_breaks_35 : decode cX35_breaks 35 = .ok (.iconst 1, 1) := dc_4 (by decide +kernel)
theorem dX35_breaks_36 : decode cX35_breaks 36 = .ok (.iadd, 1) := dc_96 (by decide +kernel)
theorem dX35_breaks_37 : decode cX35_breaks 37 = .ok (.istore_n 1, 1) := dc_60 (by decide +kernel)
theorem dX35_breaks_38 : decode cX35_breaks 38 = .ok (.iload_n 1, 1) := dc_27 (by decide +kernel)
theorem dX35_breaks_39 : decode cX35_breaks 39 = .ok (.aload_n 0, 1) := dc_42 (by decide +kernel)
theorem dX35_breaks_40 : decode cX35_breaks 40 = .ok (.getfield 376, 3) := dc_180 (a := 1) (b := 120) (n := 376) (by decide +kernel)
theorem dX35_breaks_43 : decode cX35_breaks 43 = .ok (.if_icmp .ge 109, 3) := dc_162 (a := 0) (b := 109) (v := 109) (by decide +kernel)
theorem dX35_breaks_46 : decode cX35_breaks 46 = .ok (.aload_n 0, 1) := dc_42 (by decide +kernel)
theorem dX35_breaks_47 : decode cX35_breaks 47 = .ok (.getfield 195, 3) := dc_180 (a := 0) (b := 195) (n := 195) (by decide +kernel)
theorem dX35_breaks_50 : decode cX35_breaks 50 = .ok (.iload_n 1, 1) := dc_27 (by decide +kernel)
theorem dX35_breaks_51 : decode cX35_breaks 51 = .ok (.iaload, 1) := dc_46 (by decide +kernel)
theorem dX35_breaks_52 : decode cX35_breaks 52 = .ok (.iconst 3, 1) := dc_6 (by decide +kernel)
theorem dX35_breaks_53 : decode cX35_breaks 53 = .ok (.if_icmp .ne 13, 3) := dc_160 (a := 0) (b := 13) (v := 13) (by decide +kernel)
theorem dX35_breaks_56 : decode cX35_breaks 56 = .ok (.iload_n 1, 1) := dc_27 (by decide +kernel)
theorem dX35_breaks_57 : decode cX35_breaks 57 = .ok (.iconst 1, 1) := dc_4 (by decide +kernel)
theorem dX35_breaks_58 : decode cX35_breaks 58 = .ok (.iadd, 1) := dc_96 (by decide +kernel)
theorem dX35_breaks_59 : decode cX35_breaks 59 = .ok (.aload_n 0, 1) := dc_42 (by decide +kernel)
theorem dX35_breaks_60 : decode cX35_breaks 60 = .ok (.getfield 376, 3) := dc_180 (a := 1) (b := 120) (n := 376) (by decide +kernel)
theorem dX35_breaks_63 : decode cX35_breaks 63 = .ok (.if_icmp .ge 89, 3) := dc_162 (a := 0) (b := 89) (v := 89) (by decide +kernel)
theorem dX35_breaks_66 : decode cX35_breaks 66 = .ok (.aload_n 0, 1) := dc_42 (by decide +kernel)
theorem dX35_breaks_67 : decode cX35_breaks 67 = .ok (.iload_n 1, 1) := dc_27 (by decide +kernel)
theorem dX35_breaks_68 : decode cX35_breaks 68 = .ok (.invokevirtual 1062, 3) := dc_182 (a := 4) (b := 38) (n := 1062) (by decide +kernel)
theorem dX35_breaks_71 : decode cX35_breaks 71 = .ok (.istore_n 2, 1) := dc_61 (by decide +kernel)
theorem dX35_breaks_72 : decode cX35_breaks 72 = .ok (.iload_n 2, 1) := dc_28 (by decide +kernel)
theorem dX35_breaks_73 : decode cX35_breaks 73 = .ok (.sipush 10000, 3) := dc_17 (a := 39) (b := 16) (v := 10000) (by decide +kernel)
theorem dX35_breaks_76 : decode cX35_breaks 76 = .ok (.if_icmp .ge 65, 3) := dc_162 (a := 0) (b := 65) (v := 65) (by decide +kernel)
theorem dX35_breaks_79 : decode cX35_breaks 79 = .ok (.aload_n 0, 1) := dc_42 (by decide +kernel)
theorem dX35_breaks_80 : decode cX35_breaks 80 = .ok (.iload_n 2, 1) := dc_28 (by decide +kernel)
theorem dX35_breaks_81 : decode cX35_breaks 81 = .ok (.invokevirtual 1065, 3) := dc_182 (a := 4) (b := 41) (n := 1065) (by decide +kernel)
theorem dX35_breaks_84 : decode cX35_breaks 84 = .ok (.istore_n 3, 1) := dc_62 (by decide +kernel)
theorem dX35_breaks_85 : decode cX35_breaks 85 = .ok (.aload_n 0, 1) := dc_42 (by decide +kernel)
theorem dX35_breaks_86 : decode cX35_breaks 86 = .ok (.iload_n 3, 1) := dc_29 (by decide +kernel)
theorem dX35_breaks_87 : decode cX35_breaks 87 = .ok (.aload_n 0, 1) := dc_42 (by decide +kernel)
theorem dX35_breaks_88 : decode cX35_breaks 88 = .ok (.getfield 389, 3) := dc_180 (a := 1) (b := 133) (n := 389) (by decide +kernel)
theorem dX35_breaks_91 : decode cX35_breaks 91 = .ok (.if_icmp .gt 7, 3) := dc_163 (a := 0) (b := 7) (v := 7) (by decide +kernel)
theorem dX35_breaks_94 : decode cX35_breaks 94 = .ok (.iload_n 1, 1) := dc_27 (by decide +kernel)
theorem dX35_breaks_95 : decode cX35_breaks 95 = .ok (.goto 7, 3) := dc_167 (a := 0) (b := 7) (v := 7) (by decide +kernel)
theorem dX35_breaks_98 : decode cX35_breaks 98 = .ok (.aload_n 0, 1) := dc_42 (by decide +kernel)
theorem dX35_breaks_99 : decode cX35_breaks 99 = .ok (.getfield 385, 3) := dc_180 (a := 1) (b := 129) (n := 385) (by decide +kernel)
theorem dX35_breaks_102 : decode cX35_breaks 102 = .ok (.putfield 385, 3) := dc_181 (a := 1) (b := 129) (n := 385) (by decide +kernel)
theorem dX35_breaks_105 : decode cX35_breaks 105 = .ok (.aload_n 0, 1) := dc_42 (by decide +kernel)
theorem dX35_breaks_106 : decode cX35_breaks 106 = .ok (.iload_n 3, 1) := dc_29 (by decide +kernel)
theorem dX35_breaks_107 : decode cX35_breaks 107 = .ok (.aload_n 0, 1) := dc_42 (by decide +kernel)
theorem dX35_breaks_108 : decode cX35_breaks 108 = .ok (.getfield 389, 3) := dc_180 (a := 1) (b := 133) (n := 389) (by decide +kernel)
theorem dX35_breaks_111 : decode cX35_breaks 111 = .ok (.if_icmp .gt 7, 3) := dc_163 (a := 0) (b := 7) (v := 7) (by decide +kernel)
theorem dX35_breaks_114 : decode cX35_breaks 114 = .ok (.iload_n 3, 1) := dc_29 (by decide +kernel)
theorem dX35_breaks_115 : decode cX35_breaks 115 = .ok (.goto 7, 3) := dc_167 (a := 0) (b := 7) (v := 7) (by decide +kernel)
theorem dX35_breaks_118 : decode cX35_breaks 118 = .ok (.aload_n 0, 1) := dc_42 (by decide +kernel)
theorem dX35_breaks_119 : decode cX35_breaks 119 = .ok (.getfield 389, 3) := dc_180 (a := 1) (b := 133) (n := 389) (by decide +kernel)
theorem dX35_breaks_122 : decode cX35_breaks 122 = .ok (.putfield 389, 3) := dc_181 (a := 1) (b := 133) (n := 389) (by decide +kernel)
theorem dX35_breaks_125 : decode cX35_breaks 125 = .ok (.iload_n 3, 1) := dc_29 (by decide +kernel)
theorem dX35_breaks_126 : decode cX35_breaks 126 = .ok (.ldc_w 388, 3) := dc_19 (a := 1) (b := 132) (n := 388) (by decide +kernel)
theorem dX35_breaks_129 : decode cX35_breaks 129 = .ok (.if_icmp .eq 10, 3) := dc_159 (a := 0) (b := 10) (v := 10) (by decide +kernel)
theorem dX35_breaks_132 : decode cX35_breaks 132 = .ok (.iload_n 2, 1) := dc_28 (by decide +kernel)
theorem dX35_breaks_133 : decode cX35_breaks 133 = .ok (.sipush (-10000), 3) := dc_17 (a := 216) (b := 240) (v := -10000) (by decide +kernel)
theorem dX35_breaks_136 : decode cX35_breaks 136 = .ok (.if_icmp .gt 5, 3) := dc_163 (a := 0) (b := 5) (v := 5) (by decide +kernel)
theorem dX35_breaks_139 : decode cX35_breaks 139 = .ok (.iconst 1, 1) := dc_4 (by decide +kernel)
theorem dX35_breaks_140 : decode cX35_breaks 140 = .ok (.ireturn, 1) := dc_172 (by decide +kernel)
theorem dX35_breaks_141 : decode cX35_breaks 141 = .ok (.aload_n 0, 1) := dc_42 (by decide +kernel)
theorem dX35_breaks_142 : decode cX35_breaks 142 = .ok (.iload_n 1, 1) := dc_27 (by decide +kernel)
theorem dX35_breaks_143 : decode cX35_breaks 143 = .ok (.invokevirtual 1034, 3) := dc_182 (a := 4) (b := 10) (n := 1034) (by decide +kernel)
theorem dX35_breaks_146 : decode cX35_breaks 146 = .ok (.iinc 1 1, 3) := dc_132 (a := 1) (b := 1) (v := 1) (by decide +kernel)
theorem dX35_breaks_149 : decode cX35_breaks 149 = .ok (.goto (-111), 3) := dc_167 (a := 255) (b := 145) (v := -111) (by decide +kernel)
theorem dX35_breaks_152 : decode cX35_breaks 152 = .ok (.iconst 0, 1) := dc_3 (by decide +kernel)
theorem dX35_breaks_153 : decode cX35_breaks 153 = .ok (.ireturn, 1) := dc_172 (by decide +kernel)
theorem GX35_385 {w : eW} {d : Nat} {Y : eY} {pc : Nat} {ls : eL} {st : List Value} {h : eH} {Q : eO → eH → Prop} {a : Nat} {x : Int32} (hf : g_I 34 h a 96 = some x) (hd : decode Y.2.1 pc = .ok (.getfield 385, 3)) (hY : Y.1.cls = RX35) (kk : wp w d Y (pc + 3) ls (.int x :: st) h Q) : wp w d Y pc ls (.ref a :: st) h Q := x_gI (ci := 34) (k := 96) hf hd rfl (by decide) (by rw [hY]; exact q4597) kk
theorem GX35_389 {w : eW} {d : Nat} {Y : eY} {pc : Nat} {ls : eL} {st : List Value} {h : eH} {Q : eO → eH → Prop} {a : Nat} {x : Int32} (hf : g_I 34 h a 97 = some x) (hd : decode Y.2.1 pc = .ok (.getfield 389, 3)) (hY : Y.1.cls = RX35) (kk : wp w d Y (pc + 3) ls (.int x :: st) h Q) : wp w d Y pc ls (.ref a :: st) h Q := x_gI (ci := 34) (k := 97) hf hd rfl (by decide) (by rw [hY]; exact q4598) kk
def fX35_breaks_b139 (N : Nat)  (h : eH) : Option (Int32 × eH) :=
  some ((1 : Int32), h)
theorem pX35_breaks_b139 {w : eW} {d : Nat} (hd : 3 ≤ d + 1) {N : Nat}  {h : eH} {q} (hf : fX35_breaks_b139 N h = some q) : wp w (d + 1) YX35_breaks 139 [none, none, none, none] [] h (e_is (e_rn c_I q)) := by
  unfold fX35_breaks_b139 at hf
  refine w_iconst dX35_breaks_139 (v := 1) (by decide) ?_
  cases hf
  exact w_iret dX35_breaks_140 rfl rfl rfl
def fX35_breaks_b141 (N : Nat) (k38 : Nat → Int32 → eH → Option (Int32 × eH)) (l0 : Nat) (l1 : Int32) (h : eH) : Option (Int32 × eH) :=
  (k_ok 34 h l0).bind fun _ =>
  (fX35_addOuter l0 l1 h).bind fun q2 =>
  k38 l0 (l1 + (1 : Int32)) q2.2
theorem pX35_breaks_b141 {w : eW} {d : Nat} (hd : 3 ≤ d + 1) {N : Nat} {k38 : Nat → Int32 → eH → Option (Int32 × eH)} (hk38 : ∀ l0 l1 h q, k38 l0 l1 h = some q → wp w (d + 1) YX35_breaks 38 [some (.ref l0), some (.int l1), none, none] [] h (e_is (e_rn c_I q))) {l0 : Nat} {l1 : Int32} {h : eH} {q} (hf : fX35_breaks_b141 N k38 l0 l1 h = some q) : wp w (d + 1) YX35_breaks 141 [some (.ref l0), some (.int l1), none, none] [] h (e_is (e_rn c_I q)) := by
  unfold fX35_breaks_b141 at hf
  refine w_aload_n dX35_breaks_141 rfl rfl ?_
  refine w_iload_n dX35_breaks_142 rfl rfl ?_
  obtain ⟨_, b1, hf⟩ := Option.bind_eq_some_iff.mp hf
  refine x_cnV hf (e_stV (Yc := YX35_addOuter) (ci := 34) (av := [.int l1]) (st := []) dX35_breaks_143 q5489 mX35_addOuter rfl (k_ok_some b1).1 (k_ok_some b1).2) mX35_addOuter.2.2.1 mX35_addOuter.2.2.2.2.1 (Nat.le_of_ble_eq_true rfl) (Nat.le_of_ble_eq_true rfl) (fun q hq => pX35_addOuter (by omega) hq) (fun q2 hf => ?_)
  refine w_iinc dX35_breaks_146 (v := (l1 + (1 : Int32))) rfl rfl (by decide) (ls' := [some (.ref l0), some (.int (l1 + (1 : Int32))), none, none]) rfl ?_
  refine w_goto 38 dX35_breaks_149 (by decide) ?_
  exact (hk38 _ _ _ _ hf).to ⟨rfl, rfl, trivial⟩
def fX35_breaks_b122 (N : Nat) (k38 : Nat → Int32 → eH → Option (Int32 × eH)) (l0 : Nat) (l1 : Int32) (l2 : Int32) (l3 : Int32) (s0 : Nat) (s1 : Int32) (h : eH) : Option (Int32 × eH) :=
  (p_V 34 h s0 97 (.int s1)).bind fun h1 =>
  if l3 = (1073741823 : Int32) then
    fX35_breaks_b139 N h1
  else
    if (-10000 : Int32) < l2 then
      fX35_breaks_b141 N k38 l0 l1 h1
    else
      fX35_breaks_b139 N h1
theorem pX35_breaks_b122 {w : eW} {d : Nat} (hd : 3 ≤ d + 1) {N : Nat} {k38 : Nat → Int32 → eH → Option (Int32 × eH)} (hk38 : ∀ l0 l1 h q, k38 l0 l1 h = some q → wp w (d + 1) YX35_breaks 38 [some (.ref l0), some (.int l1), none, none] [] h (e_is (e_rn c_I q))) {l0 : Nat} {l1 : Int32} {l2 : Int32} {l3 : Int32} {s0 : Nat} {s1 : Int32} {h : eH} {q} (hf : fX35_breaks_b122 N k38 l0 l1 l2 l3 s0 s1 h = some q) : wp w (d + 1) YX35_breaks 122 [some (.ref l0), some (.int l1), some (.int l2), some (.int l3)] [.int s1, .ref s0] h (e_is (e_rn c_I q)) := by
  unfold fX35_breaks_b122 at hf
  obtain ⟨h1, b2, hf⟩ := Option.bind_eq_some_iff.mp hf
  refine SX35_389 b2 dX35_breaks_122 rfl ?_
  refine w_iload_n dX35_breaks_125 rfl rfl ?_
  refine w_ldc_w dX35_breaks_126 q4479 ?_
  refine w_icmp_eq 139 dX35_breaks_129 (by decide) (fun c3 => ?_) (fun c3 => ?_)
  · replace hf := (if_pos (show l3 = (1073741823 : Int32) from c3)).symm.trans hf
    exact (pX35_breaks_b139 hd hf).to trivial
  · replace hf := (if_neg (show ¬ (l3 = (1073741823 : Int32)) from c3)).symm.trans hf
    refine w_iload_n dX35_breaks_132 rfl rfl ?_
    refine w_sipush dX35_breaks_133 (v := -10000) (by decide) ?_
    refine w_icmp_gt 141 dX35_breaks_136 (by decide) (fun c4 => ?_) (fun c4 => ?_)
    · replace hf := (if_pos (show (-10000 : Int32) < l2 from c4)).symm.trans hf
      exact (pX35_breaks_b141 hd hk38 hf).to ⟨rfl, rfl, trivial⟩
    · replace hf := (if_neg (show ¬ ((-10000 : Int32) < l2) from c4)).symm.trans hf
      exact (pX35_breaks_b139 hd hf).to trivial
def fX35_breaks_b102 (N : Nat) (k38 : Nat → Int32 → eH → Option (Int32 × eH)) (l0 : Nat) (l1 : Int32) (l2 : Int32) (l3 : Int32) (s0 : Nat) (s1 : Int32) (h : eH) : Option (Int32 × eH) :=
  (p_V 34 h s0 96 (.int s1)).bind fun h1 =>
  (g_I 34 h1 l0 97).bind fun x3 =>
  if x3 < l3 then
    (g_I 34 h1 l0 97).bind fun x6 =>
    fX35_breaks_b122 N k38 l0 l1 l2 l3 l0 x6 h1
  else
    fX35_breaks_b122 N k38 l0 l1 l2 l3 l0 l3 h1
theorem pX35_breaks_b102 {w : eW} {d : Nat} (hd : 3 ≤ d + 1) {N : Nat} {k38 : Nat → Int32 → eH → Option (Int32 × eH)} (hk38 : ∀ l0 l1 h q, k38 l0 l1 h = some q → wp w (d + 1) YX35_breaks 38 [some (.ref l0), some (.int l1), none, none] [] h (e_is (e_rn c_I q))) {l0 : Nat} {l1 : Int32} {l2 : Int32} {l3 : Int32} {s0 : Nat} {s1 : Int32} {h : eH} {q} (hf : fX35_breaks_b102 N k38 l0 l1 l2 l3 s0 s1 h = some q) : wp w (d + 1) YX35_breaks 102 [some (.ref l0), some (.int l1), some (.int l2), some (.int l3)] [.int s1, .ref s0] h (e_is (e_rn c_I q)) := by
  unfold fX35_breaks_b102 at hf
  obtain ⟨h1, b2, hf⟩ := Option.bind_eq_some_iff.mp hf
  refine SX35_385 b2 dX35_breaks_102 rfl ?_
  refine w_aload_n dX35_breaks_105 rfl rfl ?_
  refine w_iload_n dX35_breaks_106 rfl rfl ?_
  refine w_aload_n dX35_breaks_107 rfl rfl ?_
  obtain ⟨x3, b4, hf⟩ := Option.bind_eq_some_iff.mp hf
  refine GX35_389 b4 dX35_breaks_108 rfl ?_
  refine w_icmp_gt 118 dX35_breaks_111 (by decide) (fun c5 => ?_) (fun c5 => ?_)
  · replace hf := (if_pos (show x3 < l3 from c5)).symm.trans hf
    refine w_aload_n dX35_breaks_118 rfl rfl ?_
    obtain ⟨x6, b7, hf⟩ := Option.bind_eq_some_iff.mp hf
    refine GX35_389 b7 dX35_breaks_119 rfl ?_
    exact (pX35_breaks_b122 hd hk38 hf).to ⟨rfl, rfl, rfl, rfl, trivial⟩
  · replace hf := (if_neg (show ¬ (x3 < l3) from c5)).symm.trans hf
    refine w_iload_n dX35_breaks_114 rfl rfl ?_
    refine w_goto 122 dX35_breaks_115 (by decide) ?_
    exact (pX35_breaks_b122 hd hk38 hf).to ⟨rfl, rfl, rfl, rfl, trivial⟩
def fX35_breaks_b66 (N : Nat) (k38 : Nat → Int32 → eH → Option (Int32 × eH)) (l0 : Nat) (l1 : Int32) (h : eH) : Option (Int32 × eH) :=
  (k_ok 34 h l0).bind fun _ =>
  (fX35_penaltyAt l0 l1 h).bind fun q2 =>
  if (10000 : Int32) ≤ q2.1 then
    fX35_breaks_b141 N k38 l0 l1 q2.2
  else
    (k_ok 34 q2.2 l0).bind fun _ =>
    (fX35_cost l0 q2.1 q2.2).bind fun q5 =>
    (g_I 34 q5.2 l0 97).bind fun x6 =>
    if x6 < q5.1 then
      (g_I 34 q5.2 l0 96).bind fun x9 =>
      fX35_breaks_b102 N k38 l0 l1 q2.1 q5.1 l0 x9 q5.2
    else
      fX35_breaks_b102 N k38 l0 l1 q2.1 q5.1 l0 l1 q5.2
theorem pX35_breaks_b66 {w : eW} {d : Nat} (hd : 3 ≤ d + 1) {N : Nat} {k38 : Nat → Int32 → eH → Option (Int32 × eH)} (hk38 : ∀ l0 l1 h q, k38 l0 l1 h = some q → wp w (d + 1) YX35_breaks 38 [some (.ref l0), some (.int l1), none, none] [] h (e_is (e_rn c_I q))) {l0 : Nat} {l1 : Int32} {h : eH} {q} (hf : fX35_breaks_b66 N k38 l0 l1 h = some q) : wp w (d + 1) YX35_breaks 66 [some (.ref l0), some (.int l1), none, none] [] h (e_is (e_rn c_I q)) := by
  unfold fX35_breaks_b66 at hf
  refine w_aload_n dX35_breaks_66 rfl rfl ?_
  refine w_iload_n dX35_breaks_67 rfl rfl ?_
  obtain ⟨_, b1, hf⟩ := Option.bind_eq_some_iff.mp hf
  refine x_cnI hf (e_stV (Yc := YX35_penaltyAt) (ci := 34) (av := [.int l1]) (st := []) dX35_breaks_68 q5493 mX35_penaltyAt rfl (k_ok_some b1).1 (k_ok_some b1).2) mX35_penaltyAt.2.2.1 mX35_penaltyAt.2.2.2.2.1 (Nat.le_of_ble_eq_true rfl) (Nat.le_of_ble_eq_true rfl) (fun q hq => pX35_penaltyAt (by omega) hq) (fun q2 hf => ?_)
  refine w_istore_n dX35_breaks_71 rfl (by decide) (ls' := [some (.ref l0), some (.int l1), some (.int q2.1), none]) rfl ?_
  refine w_iload_n dX35_breaks_72 rfl rfl ?_
  refine w_sipush dX35_breaks_73 (v := 10000) (by decide) ?_
  refine w_icmp_ge 141 dX35_breaks_76 (by decide) (fun c3 => ?_) (fun c3 => ?_)
  · replace hf := (if_pos (show (10000 : Int32) ≤ q2.1 from c3)).symm.trans hf
    exact (pX35_breaks_b141 hd hk38 hf).to ⟨rfl, rfl, trivial⟩
  · replace hf := (if_neg (show ¬ ((10000 : Int32) ≤ q2.1) from c3)).symm.trans hf
    refine w_aload_n dX35_breaks_79 rfl rfl ?_
    refine w_iload_n dX35_breaks_80 rfl rfl ?_
    obtain ⟨_, b4, hf⟩ := Option.bind_eq_some_iff.mp hf
    refine x_cnI hf (e_stV (Yc := YX35_cost) (ci := 34) (av := [.int q2.1]) (st := []) dX35_breaks_81 q5497 mX35_cost rfl (k_ok_some b4).1 (k_ok_some b4).2) mX35_cost.2.2.1 mX35_cost.2.2.2.2.1 (Nat.le_of_ble_eq_true rfl) (Nat.le_of_ble_eq_true rfl) (fun q hq => pX35_cost (by omega) hq) (fun q5 hf => ?_)
    refine w_istore_n dX35_breaks_84 rfl (by decide) (ls' := [some (.ref l0), some (.int l1), some (.int q2.1), some (.int q5.1)]) rfl ?_
    refine w_aload_n dX35_breaks_85 rfl rfl ?_
    refine w_iload_n dX35_breaks_86 rfl rfl ?_
    refine w_aload_n dX35_breaks_87 rfl rfl ?_
    obtain ⟨x6, b7, hf⟩ := Option.bind_eq_some_iff.mp hf
    refine GX35_389 b7 dX35_breaks_88 rfl ?_
    refine w_icmp_gt 98 dX35_breaks_91 (by decide) (fun c8 => ?_) (fun c8 => ?_)
    · replace hf := (if_pos (show x6 < q5.1 from c8)).symm.trans hf
      refine w_aload_n dX35_breaks_98 rfl rfl ?_
      obtain ⟨x9, b10, hf⟩ := Option.bind_eq_some_iff.mp hf
      refine GX35_385 b10 dX35_breaks_99 rfl ?_
      exact (pX35_breaks_b102 hd hk38 hf).to ⟨rfl, rfl, rfl, rfl, trivial⟩
    · replace hf := (if_neg (show ¬ (x6 < q5.1) from c8)).symm.trans hf
      refine w_iload_n dX35_breaks_94 rfl rfl ?_
      refine w_goto 102 dX35_breaks_95 (by decide) ?_
      exact (pX35_breaks_b102 hd hk38 hf).to ⟨rfl, rfl, rfl, rfl, trivial⟩
def fX35_breaks_b152 (N : Nat)  (h : eH) : Option (Int32 × eH) :=
  some ((0 : Int32), h)
theorem pX35_breaks_b152 {w : eW} {d : Nat} (hd : 3 ≤ d + 1) {N : Nat}  {h : eH} {q} (hf : fX35_breaks_b152 N h = some q) : wp w (d + 1) YX35_breaks 152 [none, none, none, none] [] h (e_is (e_rn c_I q)) := by
  unfold fX35_breaks_b152 at hf
  refine w_iconst dX35_breaks_152 (v := 0) (by decide) ?_
  cases hf
  exact w_iret dX35_breaks_153 rfl rfl rfl
def fX35_breaks_b38 (N : Nat) : Nat → Nat → Int32 → eH → Option (Int32 × eH)
  | 0, _, _, _ => none
  | n + 1, l0, l1, h =>
    (g_I 34 h l0 86).bind fun x1 =>
    if x1 ≤ l1 then
      fX35_breaks_b152 N h
    else
      (g_A 34 h l0 87).bind fun a4 =>
      (r_I 100 h a4 l1).bind fun x6 =>
      if ¬ x6 = (3 : Int32) then
        fX35_breaks_b66 N (fX35_breaks_b38 N n) l0 l1 h
      else
        (g_I 34 h l0 86).bind fun x9 =>
        if x9 ≤ (l1 + (1 : Int32)) then
          fX35_breaks_b152 N h
        else
          fX35_breaks_b66 N (fX35_breaks_b38 N n) l0 l1 h
theorem pX35_breaks_b38 {w : eW} {d : Nat} (hd : 3 ≤ d + 1) {N : Nat} : ∀ (n : Nat) l0 l1 h q, fX35_breaks_b38 N n l0 l1 h = some q → wp w (d + 1) YX35_breaks 38 [some (.ref l0), some (.int l1), none, none] [] h (e_is (e_rn c_I q)) := by
  intro n
  induction n with
  | zero => intro l0 l1 h q hf; simp [fX35_breaks_b38] at hf
  | succ n ih =>
    intro l0 l1 h q hf
    rw [fX35_breaks_b38] at hf
    refine w_iload_n dX35_breaks_38 rfl rfl ?_
    refine w_aload_n dX35_breaks_39 rfl rfl ?_
    obtain ⟨x1, b2, hf⟩ := Option.bind_eq_some_iff.mp hf
    refine GX35_376 b2 dX35_breaks_40 rfl ?_
    refine w_icmp_ge 152 dX35_breaks_43 (by decide) (fun c3 => ?_) (fun c3 => ?_)
    · replace hf := (if_pos (show x1 ≤ l1 from c3)).symm.trans hf
      exact (pX35_breaks_b152 hd hf).to trivial
    · replace hf := (if_neg (show ¬ (x1 ≤ l1) from c3)).symm.trans hf
      refine w_aload_n dX35_breaks_46 rfl rfl ?_
      obtain ⟨a4, b5, hf⟩ := Option.bind_eq_some_iff.mp hf
      refine GX35_195 b5 dX35_breaks_47 rfl ?_
      refine w_iload_n dX35_breaks_50 rfl rfl ?_
      obtain ⟨x6, b7, hf⟩ := Option.bind_eq_some_iff.mp hf
      refine x_rI b7 dX35_breaks_51 ?_
      refine w_iconst dX35_breaks_52 (v := 3) (by decide) ?_
      refine w_icmp_ne 66 dX35_breaks_53 (by decide) (fun c8 => ?_) (fun c8 => ?_)
      · replace hf := (if_pos (show ¬ x6 = (3 : Int32) from c8)).symm.trans hf
        exact (pX35_breaks_b66 hd ih hf).to ⟨rfl, rfl, trivial⟩
      · replace hf := (if_neg (show ¬ (¬ x6 = (3 : Int32)) from (fun z => z c8))).symm.trans hf
        refine w_iload_n dX35_breaks_56 rfl rfl ?_
        refine w_iconst dX35_breaks_57 (v := 1) (by decide) ?_
        refine w_iadd dX35_breaks_58 ?_
        refine w_aload_n dX35_breaks_59 rfl rfl ?_
        obtain ⟨x9, b10, hf⟩ := Option.bind_eq_some_iff.mp hf
        refine GX35_376 b10 dX35_breaks_60 rfl ?_
        refine w_icmp_ge 152 dX35_breaks_63 (by decide) (fun c11 => ?_) (fun c11 => ?_)
        · replace hf := (if_pos (show x9 ≤ (l1 + (1 : Int32)) from c11)).symm.trans hf
          exact (pX35_breaks_b152 hd hf).to trivial
        · replace hf := (if_neg (show ¬ (x9 ≤ (l1 + (1 : Int32))) from c11)).symm.trans hf
          exact (pX35_breaks_b66 hd ih hf).to ⟨rfl, rfl, trivial⟩
def fX35_breaks (N : Nat) (this : Nat) (h : eH) : Option (Int32 × eH) :=
  (p_V 34 h this 96 (.int (-1 : Int32))).bind fun h1 =>
  (p_V 34 h1 this 97 (.int (1073741823 : Int32))).bind fun h3 =>
  (g_I 34 h3 this 94).bind fun x5 =>
  if ¬ x5 = 0 then
    (g_I 34 h3 this 95).bind fun x8 =>
    (k_ok 34 h3 this).bind fun _ =>
    (fX35_addUpTo N this (x8 + (1 : Int32)) h3).bind fun q11 =>
    (g_I 34 q11.2 this 95).bind fun x12 =>
    fX35_breaks_b38 N N this (x12 + (1 : Int32)) q11.2
  else
    some ((0 : Int32), h3)
theorem pX35_breaks {w : eW} {d : Nat} (hd : 3 ≤ d) {N : Nat} {this : Nat} {h : eH} {q} (hf : fX35_breaks N this h = some q) : wm w d YX35_breaks [.ref this] h (e_is (e_rn c_I q)) := by
  obtain ⟨d, rfl⟩ : ∃ e, d = e + 1 := ⟨d - 1, by omega⟩
  show wp w (d + 1) YX35_breaks 0 [some (.ref this), none, none, none] [] h _
  unfold fX35_breaks at hf
  refine w_aload_n dX35_breaks_0 rfl rfl ?_
  refine w_iconst dX35_breaks_1 (v := -1) (by decide) ?_
  obtain ⟨h1, b2, hf⟩ := Option.bind_eq_some_iff.mp hf
  refine SX35_385 b2 dX35_breaks_2 rfl ?_
  refine w_aload_n dX35_breaks_5 rfl rfl ?_
  refine w_ldc_w dX35_breaks_6 q4479 ?_
  obtain ⟨h3, b4, hf⟩ := Option.bind_eq_some_iff.mp hf
  refine SX35_389 b4 dX35_breaks_9 rfl ?_
  refine w_aload_n dX35_breaks_12 rfl rfl ?_
  obtain ⟨x5, b6, hf⟩ := Option.bind_eq_some_iff.mp hf
  refine GX35_379 b6 dX35_breaks_13 rfl ?_
  refine w_if_ne 21 dX35_breaks_16 (by decide) (fun c7 => ?_) (fun c7 => ?_)
  · replace hf := (if_pos (show ¬ x5 = 0 from c7)).symm.trans hf
    refine w_aload_n dX35_breaks_21 rfl rfl ?_
    refine w_aload_n dX35_breaks_22 rfl rfl ?_
    obtain ⟨x8, b9, hf⟩ := Option.bind_eq_some_iff.mp hf
    refine GX35_382 b9 dX35_breaks_23 rfl ?_
    refine w_iconst dX35_breaks_26 (v := 1) (by decide) ?_
    refine w_iadd dX35_breaks_27 ?_
    obtain ⟨_, b10, hf⟩ := Option.bind_eq_some_iff.mp hf
    refine x_cnV hf (e_stV (Yc := YX35_addUpTo) (ci := 34) (av := [.int (x8 + (1 : Int32))]) (st := []) dX35_breaks_28 q5481 mX35_addUpTo rfl (k_ok_some b10).1 (k_ok_some b10).2) mX35_addUpTo.2.2.1 mX35_addUpTo.2.2.2.2.1 (Nat.le_of_ble_eq_true rfl) (Nat.le_of_ble_eq_true rfl) (fun q hq => pX35_addUpTo (by omega) hq) (fun q11 hf => ?_)
    refine w_aload_n dX35_breaks_31 rfl rfl ?_
    obtain ⟨x12, b13, hf⟩ := Option.bind_eq_some_iff.mp hf
    refine GX35_382 b13 dX35_breaks_32 rfl ?_
    refine w_iconst dX35_breaks_35 (v := 1) (by decide) ?_
    refine w_iadd dX35_breaks_36 ?_
    refine w_istore_n dX35_breaks_37 rfl (by decide) (ls' := [some (.ref this), some (.int (x12 + (1 : Int32))), none, none]) rfl ?_
    exact (pX35_breaks_b38 hd N _ _ _ _ hf).to ⟨rfl, rfl, trivial⟩
  · replace hf := (if_neg (show ¬ (¬ x5 = 0) from (fun z => z c7))).symm.trans hf
    refine w_iconst dX35_breaks_19 (v := 0) (by decide) ?_
    cases hf
    exact w_iret dX35_breaks_20 rfl rfl rfl
abbrev cX35_pageOrder : ByteArray := prog_37_method_157_code
def yX35_pageOrder : MethodName := ⟨RX35, "pageOrder", "(J)I"⟩
def YX35_pageOrder : eY := (yX35_pageOrder, cX35_pageOrder, 5, (Option.some FieldType.int), [])
theorem mX35_pageOrder : e_mv YX35_pageOrder RX35 1 := ⟨q5529, qs326, q5530, by decide, by decide +kernel, (e_sig (by decide +kernel))⟩
theorem dX35_pageOrder_0 : decode cX35_pageOrder 0 = .ok (.iconst 0, 1) := dc_3 (by decide +kernel)
theorem dX35_pageOrder_1 : decode cX35_pageOrder 1 = .ok (.istore_n 3, 1) := dc_62 (by decide +kernel)
theorem dX35_pageOrder_2 : decode cX35_pageOrder 2 = .ok (.iconst 1, 1) := dc_4 (by decide +kernel)
theorem dX35_pageOrder_3 : decode cX35_pageOrder 3 = .ok (.istore 4, 2) := dc_54 (a := 4) (by decide +kernel)
theorem dX35_pageOrder_5 : decode cX35_pageOrder 5 = .ok (.iload 4, 2) := dc_21 (a := 4) (by decide +kernel)
theorem dX35_pageOrder_7 : decode cX35_pageOrder 7 = .ok (.iconst 4, 1) := dc_7 (by decide +kernel)
theorem dX35_pageOrder_8 : decode cX35_pageOrder 8 = .ok (.if_icmp .ge 34, 3) := dc_162 (a := 0) (b := 34) (v := 34) (by decide +kernel)
theorem dX35_pageOrder_11 : decode cX35_pageOrder 11 = .ok (.lload_n 1, 1) := dc_31 (by decide +kernel)
theorem dX35_pageOrder_12 : decode cX35_pageOrder 12 = .ok (.lconst 0, 1) := dc_9 (by decide +kernel)
theorem dX35_pageOrder_13 : decode cX35_pageOrder 13 = .ok (.lcmp, 1) := dc_148 (by decide +kernel)
theorem dX35_pageOrder_14 : decode cX35_pageOrder 14 = .ok (.ifCond .le 28, 3) := dc_158 (a := 0) (b := 28) (v := 28) (by decide +kernel)
theorem dX35_pageOrder_17 : decode cX35_pageOrder 17 = .ok (.aload_n 0, 1) := dc_42 (by decide +kernel)
theorem dX35_pageOrder_18 : decode cX35_pageOrder 18 = .ok (.getfield 188, 3) := dc_180 (a := 0) (b := 188) (n := 188) (by decide +kernel)
theorem dX35_pageOrder_21 : decode cX35_pageOrder 21 = .ok (.iload 4, 2) := dc_21 (a := 4) (by decide +kernel)
theorem dX35_pageOrder_23 : decode cX35_pageOrder 23 = .ok (.laload, 1) := dc_47 (by decide +kernel)
theorem dX35_pageOrder_24 : decode cX35_pageOrder 24 = .ok (.lconst 0, 1) := dc_9 (by decide +kernel)
theorem dX35_pageOrder_25 : decode cX35_pageOrder 25 = .ok (.lcmp, 1) := dc_148 (by decide +kernel)
theorem dX35_pageOrder_26 : decode cX35_pageOrder 26 = .ok (.ifCond .le 8, 3) := dc_158 (a := 0) (b := 8) (v := 8) (by decide +kernel)
theorem dX35_pageOrder_29 : decode cX35_pageOrder 29 = .ok (.iload 4, 2) := dc_21 (a := 4) (by decide +kernel)
theorem dX35_pageOrder_31 : decode cX35_pageOrder 31 = .ok (.goto 4, 3) := dc_167 (a := 0) (b := 4) (v := 4) (by decide +kernel)
theorem dX35_pageOrder_34 : decode cX35_pageOrder 34 = .ok (.iload_n 3, 1) := dc_29 (by decide +kernel)
theorem dX35_pageOrder_35 : decode cX35_pageOrder 35 = .ok (.istore_n 3, 1) := dc_62 (by decide +kernel)
theorem dX35_pageOrder_36 : decode cX35_pageOrder 36 = .ok (.iinc 4 1, 3) := dc_132 (a := 4) (b := 1) (v := 1) (by decide +kernel)
theorem dX35_pageOrder_39 : decode cX35_pageOrder 39 = .ok (.goto (-34), 3) := dc_167 (a := 255) (b := 222) (v := -34) (by decide +kernel)
theorem dX35_pageOrder_42 : decode cX35_pageOrder 42 = .ok (.iload_n 3, 1) := dc_29 (by decide +kernel)
theorem dX35_pageOrder_43 : decode cX35_pageOrder 43 = .ok (.ireturn, 1) := dc_172 (by decide +kernel)
def fX35_pageOrder_b35 (N : Nat) (k5 : Nat → Int64 → Int32 → Int32 → eH → Option (Int32 × eH)) (l0 : Nat) (l1 : Int64) (l4 : Int32) (s0 : Int32) (h : eH) : Option (Int32 × eH) :=
  k5 l0 l1 s0 (l4 + (1 : Int32)) h
theorem pX35_pageOrder_b35 {w : eW} {d : Nat} (hd : 0 ≤ d) {N : Nat} {k5 : Nat → Int64 → Int32 → Int32 → eH → Option (Int32 × eH)} (hk5 : ∀ l0 l1 l3 l4 h q, k5 l0 l1 l3 l4 h = some q → wp w d YX35_pageOrder 5 [some (.ref l0), some (.long l1), none, some (.int l3), some (.int l4)] [] h (e_is (e_rn c_I q))) {l0 : Nat} {l1 : Int64} {l4 : Int32} {s0 : Int32} {h : eH} {q} (hf : fX35_pageOrder_b35 N k5 l0 l1 l4 s0 h = some q) : wp w d YX35_pageOrder 35 [some (.ref l0), some (.long l1), none, none, some (.int l4)] [.int s0] h (e_is (e_rn c_I q)) := by
  unfold fX35_pageOrder_b35 at hf
  refine w_istore_n dX35_pageOrder_35 rfl (by decide) (ls' := [some (.ref l0), some (.long l1), none, some (.int s0), some (.int l4)]) rfl ?_
  refine w_iinc dX35_pageOrder_36 (v := (l4 + (1 : Int32))) rfl rfl (by decide) (ls' := [some (.ref l0), some (.long l1), none, some (.int s0), some (.int (l4 + (1 : Int32)))]) rfl ?_
  refine w_goto 5 dX35_pageOrder_39 (by decide) ?_
  exact (hk5 _ _ _ _ _ _ hf).to ⟨rfl, rfl, rfl, rfl, trivial⟩
def fX35_pageOrder_b42 (N : Nat) (l3 : Int32) (h : eH) : Option (Int32 × eH) :=
  some (l3, h)
theorem pX35_pageOrder_b42 {w : eW} {d : Nat} (hd : 0 ≤ d) {N : Nat} {l3 : Int32} {h : eH} {q} (hf : fX35_pageOrder_b42 N l3 h = some q) : wp w d YX35_pageOrder 42 [none, none, none, some (.int l3), none] [] h (e_is (e_rn c_I q)) := by
  unfold fX35_pageOrder_b42 at hf
  refine w_iload_n dX35_pageOrder_42 rfl rfl ?_
  cases hf
  exact w_iret dX35_pageOrder_43 rfl rfl rfl
def fX35_pageOrder_b5 (N : Nat) : Nat → Nat → Int64 → Int32 → Int32 → eH → Option (Int32 × eH)
  | 0, _, _, _, _, _ => none
  | n + 1, l0, l1, l3, l4, h =>
    if (4 : Int32) ≤ l4 then
      fX35_pageOrder_b42 N l3 h
    else
      if (lg_cmp l1 (0 : Int64)) ≤ 0 then
        fX35_pageOrder_b42 N l3 h
      else
        (g_A 34 h l0 83).bind fun a3 =>
        (r_J h a3 l4).bind fun x5 =>
        if (lg_cmp x5 (0 : Int64)) ≤ 0 then
          fX35_pageOrder_b35 N (fX35_pageOrder_b5 N n) l0 l1 l4 l3 h
        else
          fX35_pageOrder_b35 N (fX35_pageOrder_b5 N n) l0 l1 l4 l4 h
theorem pX35_pageOrder_b5 {w : eW} {d : Nat} (hd : 0 ≤ d) {N : Nat} : ∀ (n : Nat) l0 l1 l3 l4 h q, fX35_pageOrder_b5 N n l0 l1 l3 l4 h = some q → wp w d YX35_pageOrder 5 [some (.ref l0), some (.long l1), none, some (.int l3), some (.int l4)] [] h (e_is (e_rn c_I q)) := by
  intro n
  induction n with
  | zero => intro l0 l1 l3 l4 h q hf; simp [fX35_pageOrder_b5] at hf
  | succ n ih =>
    intro l0 l1 l3 l4 h q hf
    rw [fX35_pageOrder_b5] at hf
    refine w_iload dX35_pageOrder_5 rfl ?_
    refine w_iconst dX35_pageOrder_7 (v := 4) (by decide) ?_
    refine w_icmp_ge 42 dX35_pageOrder_8 (by decide) (fun c1 => ?_) (fun c1 => ?_)
    · replace hf := (if_pos (show (4 : Int32) ≤ l4 from c1)).symm.trans hf
      exact (pX35_pageOrder_b42 hd hf).to ⟨rfl, trivial⟩
    · replace hf := (if_neg (show ¬ ((4 : Int32) ≤ l4) from c1)).symm.trans hf
      refine w_lload_n dX35_pageOrder_11 rfl rfl ?_
      refine w_lconst dX35_pageOrder_12 (v := 0) (by decide) ?_
      refine w_lcmp dX35_pageOrder_13 ?_
      refine w_if_le 42 dX35_pageOrder_14 (by decide) (fun c2 => ?_) (fun c2 => ?_)
      · replace hf := (if_pos (show (lg_cmp l1 (0 : Int64)) ≤ 0 from c2)).symm.trans hf
        exact (pX35_pageOrder_b42 hd hf).to ⟨rfl, trivial⟩
      · replace hf := (if_neg (show ¬ ((lg_cmp l1 (0 : Int64)) ≤ 0) from c2)).symm.trans hf
        refine w_aload_n dX35_pageOrder_17 rfl rfl ?_
        obtain ⟨a3, b4, hf⟩ := Option.bind_eq_some_iff.mp hf
        refine GX35_188 b4 dX35_pageOrder_18 rfl ?_
        refine w_iload dX35_pageOrder_21 rfl ?_
        obtain ⟨x5, b6, hf⟩ := Option.bind_eq_some_iff.mp hf
        refine x_rJ b6 dX35_pageOrder_23 ?_
        refine w_lconst dX35_pageOrder_24 (v := 0) (by decide) ?_
        refine w_lcmp dX35_pageOrder_25 ?_
        refine w_if_le 34 dX35_pageOrder_26 (by decide) (fun c7 => ?_) (fun c7 => ?_)
        · replace hf := (if_pos (show (lg_cmp x5 (0 : Int64)) ≤ 0 from c7)).symm.trans hf
          refine w_iload_n dX35_pageOrder_34 rfl rfl ?_
          exact (pX35_pageOrder_b35 hd ih hf).to ⟨rfl, rfl, rfl, trivial⟩
        · replace hf := (if_neg (show ¬ ((lg_cmp x5 (0 : Int64)) ≤ 0) from c7)).symm.trans hf
          refine w_iload dX35_pageOrder_29 rfl ?_
          refine w_goto 35 dX35_pageOrder_31 (by decide) ?_
          exact (pX35_pageOrder_b35 hd ih hf).to ⟨rfl, rfl, rfl, trivial⟩
def fX35_pageOrder (N : Nat) (this : Nat) (p0 : Int64) (h : eH) : Option (Int32 × eH) :=
  fX35_pageOrder_b5 N N this p0 (0 : Int32) (1 : Int32) h
theorem pX35_pageOrder {w : eW} {d : Nat} (hd : 0 ≤ d) {N : Nat} {this : Nat} {p0 : Int64} {h : eH} {q} (hf : fX35_pageOrder N this p0 h = some q) : wm w d YX35_pageOrder [.ref this, .long p0] h (e_is (e_rn c_I q)) := by
  show wp w d YX35_pageOrder 0 [some (.ref this), some (.long p0), none, none, none] [] h _
  unfold fX35_pageOrder at hf
  refine w_iconst dX35_pageOrder_0 (v := 0) (by decide) ?_
  refine w_istore_n dX35_pageOrder_1 rfl (by decide) (ls' := [some (.ref this), some (.long p0), none, some (.int (0 : Int32)), none]) rfl ?_
  refine w_iconst dX35_pageOrder_2 (v := 1) (by decide) ?_
  refine w_istore dX35_pageOrder_3 (by decide) (ls' := [some (.ref this), some (.long p0), none, some (.int (0 : Int32)), some (.int (1 : Int32))]) rfl ?_
  exact (pX35_pageOrder_b5 hd N _ _ _ _ _ _ hf).to ⟨rfl, rfl, rfl, rfl, trivial⟩
abbrev cX35_nearestOf : ByteArray := prog_37_method_156_code
def yX35_nearestOf : MethodName := ⟨RX35, "nearestOf", "(JJJ)J"⟩
def YX35_nearestOf : eY := (yX35_nearestOf, cX35_nearestOf, 11, (Option.some FieldType.long), [])
theorem mX35_nearestOf : e_ms YX35_nearestOf 3 := ⟨q5532, q466, q5533, by decide, by decide +kernel, (e_sig (by decide +kernel))⟩
theorem dX35_nearestOf_0 : decode cX35_nearestOf 0 = .ok (.lconst 0, 1) := dc_9 (by decide +kernel)
theorem dX35_nearestOf_1 : decode cX35_nearestOf 1 = .ok (.lstore 6, 2) := dc_55 (a := 6) (by decide +kernel)
theorem dX35_nearestOf_3 : decode cX35_nearestOf 3 = .ok (.lconst 0, 1) := dc_9 (by decide +kernel)
theorem dX35_nearestOf_4 : decode cX35_nearestOf 4 = .ok (.lstore 8, 2) := dc_55 (a := 8) (by decide +kernel)
theorem dX35_nearestOf_6 : decode cX35_nearestOf 6 = .ok (.bipush 48, 2) := dc_16 (a := 48) (v := 48) (by decide +kernel)
theorem dX35_nearestOf_8 : decode cX35_nearestOf 8 = .ok (.istore 10, 2) := dc_54 (a := 10) (by decide +kernel)
theorem dX35_nearestOf_10 : decode cX35_nearestOf 10 = .ok (.iload 10, 2) := dc_21 (a := 10) (by decide +kernel)
theorem dX35_nearestOf_12 : decode cX35_nearestOf 12 = .ok (.ifCond .lt 49, 3) := dc_155 (a := 0) (b := 49) (v := 49) (by decide +kernel)
theorem dX35_nearestOf_15 : decode cX35_nearestOf 15 = .ok (.lload 8, 2) := dc_22 (a := 8) (by decide +kernel)
theorem dX35_nearestOf_17 : decode cX35_nearestOf 17 = .ok (.ldc2_w 714, 3) := dc_20 (a := 2) (b := 202) (n := 714) (by decide +kernel)
theorem dX35_nearestOf_20 : decode cX35_nearestOf 20 = .ok (.lmul, 1) := dc_105 (by decide +kernel)
theorem dX35_nearestOf_21 : decode cX35_nearestOf 21 = .ok (.lload_n 0, 1) := dc_30 (by decide +kernel)
theorem dX35_nearestOf_22 : decode cX35_nearestOf 22 = .ok (.iload 10, 2) := dc_21 (a := 10) (by decide +kernel)
theorem dX35_nearestOf_24 : decode cX35_nearestOf 24 = .ok (.lshr, 1) := dc_123 (by decide +kernel)
theorem dX35_nearestOf_25 : decode cX35_nearestOf 25 = .ok (.ldc2_w 1077, 3) := dc_20 (a := 4) (b := 53) (n := 1077) (by decide +kernel)
theorem dX35_nearestOf_28 : decode cX35_nearestOf 28 = .ok (.land, 1) := dc_127 (by decide +kernel)
theorem dX35_nearestOf_29 : decode cX35_nearestOf 29 = .ok (.lload_n 2, 1) := dc_32 (by decide +kernel)
theorem dX35_nearestOf_30 : decode cX35_nearestOf 30 = .ok (.lmul, 1) := dc_105 (by decide +kernel)
theorem dX35_nearestOf_31 : decode cX35_nearestOf 31 = .ok (.ladd, 1) := dc_97 (by decide +kernel)
theorem dX35_nearestOf_32 : decode cX35_nearestOf 32 = .ok (.lstore 8, 2) := dc_55 (a := 8) (by decide +kernel)
theorem dX35_nearestOf_34 : decode cX35_nearestOf 34 = .ok (.lload 6, 2) := dc_22 (a := 6) (by decide +kernel)
theorem dX35_nearestOf_36 : decode cX35_nearestOf 36 = .ok (.ldc2_w 714, 3) := dc_20 (a := 2) (b := 202) (n := 714) (by decide +kernel)
theorem dX35_nearestOf_39 : decode cX35_nearestOf 39 = .ok (.lmul, 1) := dc_105 (by decide +kernel)
theorem dX35_nearestOf_40 : decode cX35_nearestOf 40 = .ok (.lload 8, 2) := dc_22 (a := 8) (by decide +kernel)
theorem dX35_nearestOf_42 : decode cX35_nearestOf 42 = .ok (.lload 4, 2) := dc_22 (a := 4) (by decide +kernel)
theorem dX35_nearestOf_44 : decode cX35_nearestOf 44 = .ok (.ldiv, 1) := dc_109 (by decide +kernel)
theorem dX35_nearestOf_45 : decode cX35_nearestOf 45 = .ok (.ladd, 1) := dc_97 (by decide +kernel)
theorem dX35_nearestOf_46 : decode cX35_nearestOf 46 = .ok (.lstore 6, 2) := dc_55 (a := 6) (by decide +kernel)
theorem dX35_nearestOf_48 : decode cX35_nearestOf 48 = .ok (.lload 8, 2) := dc_22 (a := 8) (by decide +kernel)
theorem dX35_nearestOf_50 : decode cX35_nearestOf 50 = .ok (.lload 4, 2) := dc_22 (a := 4) (by decide +kernel)
theorem dX35_nearestOf_52 : decode cX35_nearestOf 52 = .ok (.lrem, 1) := dc_113 (by decide +kernel)
theorem dX35_nearestOf_53 : decode cX35_nearestOf 53 = .ok (.lstore 8, 2) := dc_55 (a := 8) (by decide +kernel)
theorem dX35_nearestOf_55 : decode cX35_nearestOf 55 = .ok (.iinc 10 (-16), 3) := dc_132 (a := 10) (b := 240) (v := -16) (by decide +kernel)
theorem dX35_nearestOf_58 : decode cX35_nearestOf 58 = .ok (.goto (-48), 3) := dc_167 (a := 255) (b := 208) (v := -48) (by decide +kernel)
theorem dX35_nearestOf_61 : decode cX35_nearestOf 61 = .ok (.lload 8, 2) := dc_22 (a := 8) (by decide +kernel)
theorem dX35_nearestOf_63 : decode cX35_nearestOf 63 = .ok (.lload 4, 2) := dc_22 (a := 4) (by decide +kernel)
theorem dX35_nearestOf_65 : decode cX35_nearestOf 65 = .ok (.lload 8, 2) := dc_22 (a := 8) (by decide +kernel)
theorem dX35_nearestOf_67 : decode cX35_nearestOf 67 = .ok (.lsub, 1) := dc_101 (by decide +kernel)
theorem dX35_nearestOf_68 : decode cX35_nearestOf 68 = .ok (.lcmp, 1) := dc_148 (by decide +kernel)
theorem dX35_nearestOf_69 : decode cX35_nearestOf 69 = .ok (.ifCond .lt 10, 3) := dc_155 (a := 0) (b := 10) (v := 10) (by decide +kernel)
theorem dX35_nearestOf_72 : decode cX35_nearestOf 72 = .ok (.lload 6, 2) := dc_22 (a := 6) (by decide +kernel)
theorem dX35_nearestOf_74 : decode cX35_nearestOf 74 = .ok (.lconst 1, 1) := dc_10 (by decide +kernel)
theorem dX35_nearestOf_75 : decode cX35_nearestOf 75 = .ok (.ladd, 1) := dc_97 (by decide +kernel)
theorem dX35_nearestOf_76 : decode cX35_nearestOf 76 = .ok (.goto 5, 3) := dc_167 (a := 0) (b := 5) (v := 5) (by decide +kernel)
theorem dX35_nearestOf_79 : decode cX35_nearestOf 79 = .ok (.lload 6, 2) := dc_22 (a := 6) (by decide +kernel)
theorem dX35_nearestOf_81 : decode cX35_nearestOf 81 = .ok (.lreturn, 1) := dc_173 (by decide +kernel)
def fX35_nearestOf_b81 (N : Nat) (s0 : Int64) (h : eH) : Option (Int64 × eH) :=
  some (s0, h)
theorem pX35_nearestOf_b81 {w : eW} {d : Nat} (hd : 0 ≤ d) {N : Nat} {s0 : Int64} {h : eH} {q} (hf : fX35_nearestOf_b81 N s0 h = some q) : wp w d YX35_nearestOf 81 [none, none, none, none, none, none, none, none, none, none, none] [.long s0] h (e_is (e_rn c_J q)) := by
  unfold fX35_nearestOf_b81 at hf
  cases hf
  exact w_lret dX35_nearestOf_81 rfl rfl
def fX35_nearestOf_b10 (N : Nat) : Nat → Int64 → Int64 → Int64 → Int64 → Int64 → Int32 → eH → Option (Int64 × eH)
  | 0, _, _, _, _, _, _, _ => none
  | n + 1, l0, l2, l4, l6, l8, l10, h =>
    if l10 < 0 then
      if (lg_cmp l8 (l4 - l8)) < 0 then
        fX35_nearestOf_b81 N l6 h
      else
        fX35_nearestOf_b81 N (l6 + (1 : Int64)) h
    else
      if l4 = 0 then none else
      if l4 = 0 then none else
      fX35_nearestOf_b10 N n l0 l2 l4 ((l6 * (65536 : Int64)) + (((l8 * (65536 : Int64)) + (((l0 >>> ((l10).toInt64 &&& 63)) &&& (65535 : Int64)) * l2)) / l4)) (((l8 * (65536 : Int64)) + (((l0 >>> ((l10).toInt64 &&& 63)) &&& (65535 : Int64)) * l2)) - ((l8 * (65536 : Int64)) + (((l0 >>> ((l10).toInt64 &&& 63)) &&& (65535 : Int64)) * l2)) / l4 * l4) (l10 + (-16 : Int32)) h
theorem pX35_nearestOf_b10 {w : eW} {d : Nat} (hd : 0 ≤ d) {N : Nat} : ∀ (n : Nat) l0 l2 l4 l6 l8 l10 h q, fX35_nearestOf_b10 N n l0 l2 l4 l6 l8 l10 h = some q → wp w d YX35_nearestOf 10 [some (.long l0), none, some (.long l2), none, some (.long l4), none, some (.long l6), none, some (.long l8), none, some (.int l10)] [] h (e_is (e_rn c_J q)) := by
  intro n
  induction n with
  | zero => intro l0 l2 l4 l6 l8 l10 h q hf; simp [fX35_nearestOf_b10] at hf
  | succ n ih =>
    intro l0 l2 l4 l6 l8 l10 h q hf
    rw [fX35_nearestOf_b10] at hf
    refine w_iload dX35_nearestOf_10 rfl ?_
    refine w_if_lt 61 dX35_nearestOf_12 (by decide) (fun c1 => ?_) (fun c1 => ?_)
    · replace hf := (if_pos (show l10 < 0 from c1)).symm.trans hf
      refine w_lload dX35_nearestOf_61 rfl ?_
      refine w_lload dX35_nearestOf_63 rfl ?_
      refine w_lload dX35_nearestOf_65 rfl ?_
      refine w_lsub dX35_nearestOf_67 ?_
      refine w_lcmp dX35_nearestOf_68 ?_
      refine w_if_lt 79 dX35_nearestOf_69 (by decide) (fun c2 => ?_) (fun c2 => ?_)
      · replace hf := (if_pos (show (lg_cmp l8 (l4 - l8)) < 0 from c2)).symm.trans hf
        refine w_lload dX35_nearestOf_79 rfl ?_
        exact (pX35_nearestOf_b81 hd hf).to trivial
      · replace hf := (if_neg (show ¬ ((lg_cmp l8 (l4 - l8)) < 0) from c2)).symm.trans hf
        refine w_lload dX35_nearestOf_72 rfl ?_
        refine w_lconst dX35_nearestOf_74 (v := 1) (by decide) ?_
        refine w_ladd dX35_nearestOf_75 ?_
        refine w_goto 81 dX35_nearestOf_76 (by decide) ?_
        exact (pX35_nearestOf_b81 hd hf).to trivial
    · replace hf := (if_neg (show ¬ (l10 < 0) from c1)).symm.trans hf
      refine w_lload dX35_nearestOf_15 rfl ?_
      refine w_ldc2 dX35_nearestOf_17 q5357 ?_
      refine w_lmul dX35_nearestOf_20 ?_
      refine w_lload_n dX35_nearestOf_21 rfl rfl ?_
      refine w_iload dX35_nearestOf_22 rfl ?_
      refine w_lshr dX35_nearestOf_24 ?_
      refine w_ldc2 dX35_nearestOf_25 q5534 ?_
      refine w_land dX35_nearestOf_28 ?_
      refine w_lload_n dX35_nearestOf_29 rfl rfl ?_
      refine w_lmul dX35_nearestOf_30 ?_
      refine w_ladd dX35_nearestOf_31 ?_
      refine w_lstore dX35_nearestOf_32 (by decide) (ls' := [some (.long l0), none, some (.long l2), none, some (.long l4), none, some (.long l6), none, some (.long ((l8 * (65536 : Int64)) + (((l0 >>> ((l10).toInt64 &&& 63)) &&& (65535 : Int64)) * l2))), none, some (.int l10)]) rfl ?_
      refine w_lload dX35_nearestOf_34 rfl ?_
      refine w_ldc2 dX35_nearestOf_36 q5357 ?_
      refine w_lmul dX35_nearestOf_39 ?_
      refine w_lload dX35_nearestOf_40 rfl ?_
      refine w_lload dX35_nearestOf_42 rfl ?_
      by_cases c3 : l4 = 0
      · exact absurd ((if_pos c3).symm.trans hf) (by simp)
      replace hf := (if_neg c3).symm.trans hf
      refine w_ldiv dX35_nearestOf_44 c3 ?_
      refine w_ladd dX35_nearestOf_45 ?_
      refine w_lstore dX35_nearestOf_46 (by decide) (ls' := [some (.long l0), none, some (.long l2), none, some (.long l4), none, some (.long ((l6 * (65536 : Int64)) + (((l8 * (65536 : Int64)) + (((l0 >>> ((l10).toInt64 &&& 63)) &&& (65535 : Int64)) * l2)) / l4))), none, some (.long ((l8 * (65536 : Int64)) + (((l0 >>> ((l10).toInt64 &&& 63)) &&& (65535 : Int64)) * l2))), none, some (.int l10)]) rfl ?_
      refine w_lload dX35_nearestOf_48 rfl ?_
      refine w_lload dX35_nearestOf_50 rfl ?_
      by_cases c4 : l4 = 0
      · exact absurd ((if_pos c4).symm.trans hf) (by simp)
      replace hf := (if_neg c4).symm.trans hf
      refine w_lrem dX35_nearestOf_52 c4 ?_
      refine w_lstore dX35_nearestOf_53 (by decide) (ls' := [some (.long l0), none, some (.long l2), none, some (.long l4), none, some (.long ((l6 * (65536 : Int64)) + (((l8 * (65536 : Int64)) + (((l0 >>> ((l10).toInt64 &&& 63)) &&& (65535 : Int64)) * l2)) / l4))), none, some (.long (((l8 * (65536 : Int64)) + (((l0 >>> ((l10).toInt64 &&& 63)) &&& (65535 : Int64)) * l2)) - ((l8 * (65536 : Int64)) + (((l0 >>> ((l10).toInt64 &&& 63)) &&& (65535 : Int64)) * l2)) / l4 * l4)), none, some (.int l10)]) rfl ?_
      refine w_iinc dX35_nearestOf_55 (v := (l10 + (-16 : Int32))) rfl rfl (by decide) (ls' := [some (.long l0), none, some (.long l2), none, some (.long l4), none, some (.long ((l6 * (65536 : Int64)) + (((l8 * (65536 : Int64)) + (((l0 >>> ((l10).toInt64 &&& 63)) &&& (65535 : Int64)) * l2)) / l4))), none, some (.long (((l8 * (65536 : Int64)) + (((l0 >>> ((l10).toInt64 &&& 63)) &&& (65535 : Int64)) * l2)) - ((l8 * (65536 : Int64)) + (((l0 >>> ((l10).toInt64 &&& 63)) &&& (65535 : Int64)) * l2)) / l4 * l4)), none, some (.int (l10 + (-16 : Int32)))]) rfl ?_
      refine w_goto 10 dX35_nearestOf_58 (by decide) ?_
      exact (ih _ _ _ _ _ _ _ _ hf).to ⟨rfl, rfl, rfl, rfl, rfl, rfl, trivial⟩
def fX35_nearestOf (N : Nat) (p0 : Int64) (p1 : Int64) (p2 : Int64) (h : eH) : Option (Int64 × eH) :=
  fX35_nearestOf_b10 N N p0 p1 p2 (0 : Int64) (0 : Int64) (48 : Int32) h
theorem pX35_nearestOf {w : eW} {d : Nat} (hd : 0 ≤ d) {N : Nat} {p0 : Int64} {p1 : Int64} {p2 : Int64} {h : eH} {q} (hf : fX35_nearestOf N p0 p1 p2 h = some q) : wm w d YX35_nearestOf [.long p0, .long p1, .long p2] h (e_is (e_rn c_J q)) := by
  show wp w d YX35_nearestOf 0 [some (.long p0), none, some (.long p1), none, some (.long p2), none, none, none, none, none, none] [] h _
  unfold fX35_nearestOf at hf
  refine w_lconst dX35_nearestOf_0 (v := 0) (by decide) ?_
  refine w_lstore dX35_nearestOf_1 (by decide) (ls' := [some (.long p0), none, some (.long p1), none, some (.long p2), none, some (.long (0 : Int64)), none, none, none, none]) rfl ?_
  refine w_lconst dX35_nearestOf_3 (v := 0) (by decide) ?_
  refine w_lstore dX35_nearestOf_4 (by decide) (ls' := [some (.long p0), none, some (.long p1), none, some (.long p2), none, some (.long (0 : Int64)), none, some (.long (0 : Int64)), none, none]) rfl ?_
  refine w_bipush dX35_nearestOf_6 (v := 48) (by decide) ?_
  refine w_istore dX35_nearestOf_8 (by decide) (ls' := [some (.long p0), none, some (.long p1), none, some (.long p2), none, some (.long (0 : Int64)), none, some (.long (0 : Int64)), none, some (.int (48 : Int32))]) rfl ?_
  exact (pX35_nearestOf_b10 hd N _ _ _ _ _ _ _ _ hf).to ⟨rfl, rfl, rfl, rfl, rfl, rfl, trivial⟩
abbrev cX35_stands : ByteArray := prog_37_method_158_code
def yX35_stands : MethodName := ⟨RX35, "stands", "(I)J"⟩
def YX35_stands : eY := (yX35_stands, cX35_stands, 9, (Option.some FieldType.long), [])
theorem mX35_stands : e_mv YX35_stands RX35 1 := ⟨q5525, qs325, q5526, by decide, by decide +kernel, (e_sig (by decide +kernel))⟩
theorem dX35_stands_0 : decode cX35_stands 0 = .ok (.aload_n 0, 1) := dc_42 (by decide +kernel)
theorem dX35_stands_1 : decode cX35_stands 1 = .ok (.aload_n 0, 1) := dc_42 (by decide +kernel)
theorem dX35_stands_2 : decode cX35_stands 2 = .ok (.getfield 385, 3) := dc_180 (a := 1) (b := 129) (n := 385) (by decide +kernel)
theorem dX35_stands_5 : decode cX35_stands 5 = .ok (.invokevirtual 1059, 3) := dc_182 (a := 4) (b := 35) (n := 1059) (by decide +kernel)
theorem dX35_stands_8 : decode cX35_stands 8 = .ok (.aload_n 0, 1) := dc_42 (by decide +kernel)
theorem dX35_stands_9 : decode cX35_stands 9 = .ok (.getfield 1049, 3) := dc_180 (a := 4) (b := 25) (n := 1049) (by decide +kernel)
theorem dX35_stands_12 : decode cX35_stands 12 = .ok (.i2l, 1) := dc_133 (by decide +kernel)
theorem dX35_stands_13 : decode cX35_stands 13 = .ok (.aload_n 0, 1) := dc_42 (by decide +kernel)
theorem dX35_stands_14 : decode cX35_stands 14 = .ok (.getfield 952, 3) := dc_180 (a := 3) (b := 184) (n := 952) (by decide +kernel)
theorem dX35_stands_17 : decode cX35_stands 17 = .ok (.lsub, 1) := dc_101 (by decide +kernel)
theorem dX35_stands_18 : decode cX35_stands 18 = .ok (.lstore_n 2, 1) := dc_65 (by decide +kernel)
theorem dX35_stands_19 : decode cX35_stands 19 = .ok (.aload_n 0, 1) := dc_42 (by decide +kernel)
theorem dX35_stands_20 : decode cX35_stands 20 = .ok (.lload_n 2, 1) := dc_32 (by decide +kernel)
theorem dX35_stands_21 : decode cX35_stands 21 = .ok (.invokevirtual 1079, 3) := dc_182 (a := 4) (b := 55) (n := 1079) (by decide +kernel)
theorem dX35_stands_24 : decode cX35_stands 24 = .ok (.istore 4, 2) := dc_54 (a := 4) (by decide +kernel)
theorem dX35_stands_26 : decode cX35_stands 26 = .ok (.lload_n 2, 1) := dc_32 (by decide +kernel)
theorem dX35_stands_27 : decode cX35_stands 27 = .ok (.lconst 0, 1) := dc_9 (by decide +kernel)
theorem dX35_stands_28 : decode cX35_stands 28 = .ok (.lcmp, 1) := dc_148 (by decide +kernel)
theorem dX35_stands_29 : decode cX35_stands 29 = .ok (.ifCond .le 13, 3) := dc_158 (a := 0) (b := 13) (v := 13) (by decide +kernel)
theorem dX35_stands_32 : decode cX35_stands 32 = .ok (.aload_n 0, 1) := dc_42 (by decide +kernel)
theorem dX35_stands_33 : decode cX35_stands 33 = .ok (.getfield 188, 3) := dc_180 (a := 0) (b := 188) (n := 188) (by decide +kernel)
theorem dX35_stands_36 : decode cX35_stands 36 = .ok (.iload 4, 2) := dc_21 (a := 4) (by decide +kernel)
theorem dX35_stands_38 : decode cX35_stands 38 = .ok (.laload, 1) := dc_47 (by decide +kernel)
theorem dX35_stands_39 : decode cX35_stands 39 = .ok (.goto 7, 3) := dc_167 (a := 0) (b := 7) (v := 7) (by decide +kernel)
theorem dX35_stands_42 : decode cX35_stands 42 = .ok (.aload_n 0, 1) := dc_42 (by decide +kernel)
theorem dX35_stands_43 : decode cX35_stands 43 = .ok (.getfield 966, 3) := dc_180 (a := 3) (b := 198) (n := 966) (by decide +kernel)
theorem dX35_stands_46 : decode cX35_stands 46 = .ok (.lstore 5, 2) := dc_55 (a := 5) (by decide +kernel)
theorem dX35_stands_48 : decode cX35_stands 48 = .ok (.aload_n 0, 1) := dc_42 (by decide +kernel)
theorem dX35_stands_49 : decode cX35_stands 49 = .ok (.iload_n 1, 1) := dc_27 (by decide +kernel)
theorem dX35_stands_50 : decode cX35_stands 50 = .ok (.invokevirtual 1059, 3) := dc_182 (a := 4) (b := 35) (n := 1059) (by decide +kernel)
theorem dX35_stands_53 : decode cX35_stands 53 = .ok (.aload_n 0, 1) := dc_42 (by decide +kernel)
theorem dX35_stands_54 : decode cX35_stands 54 = .ok (.getfield 952, 3) := dc_180 (a := 3) (b := 184) (n := 952) (by decide +kernel)
theorem dX35_stands_57 : decode cX35_stands 57 = .ok (.aload_n 0, 1) := dc_42 (by decide +kernel)
theorem dX35_stands_58 : decode cX35_stands 58 = .ok (.getfield 957, 3) := dc_180 (a := 3) (b := 189) (n := 957) (by decide +kernel)
theorem dX35_stands_61 : decode cX35_stands 61 = .ok (.ladd, 1) := dc_97 (by decide +kernel)
theorem dX35_stands_62 : decode cX35_stands 62 = .ok (.aload_n 0, 1) := dc_42 (by decide +kernel)
theorem dX35_stands_63 : decode cX35_stands 63 = .ok (.getfield 201, 3) := dc_180 (a := 0) (b := 201) (n := 201) (by decide +kernel)
theorem dX35_stands_66 : decode cX35_stands 66 = .ok (.iload_n 1, 1) := dc_27 (by decide +kernel)
theorem dX35_stands_67 : decode cX35_stands 67 = .ok (.iaload, 1) := dc_46 (by decide +kernel)
theorem dX35_stands_68 : decode cX35_stands 68 = .ok (.i2l, 1) := dc_133 (by decide +kernel)
theorem dX35_stands_69 : decode cX35_stands 69 = .ok (.ladd, 1) := dc_97 (by decide +kernel)
theorem dX35_stands_70 : decode cX35_stands 70 = .ok (.lstore 7, 2) := dc_55 (a := 7) (by decide +kernel)
theorem dX35_stands_72 : decode cX35_stands 72 = .ok (.lload_n 2, 1) := dc_32 (by decide +kernel)
theorem dX35_stands_73 : decode cX35_stands 73 = .ok (.lconst 0, 1) := dc_9 (by decide +kernel)
theorem dX35_stands_74 : decode cX35_stands 74 = .ok (.lcmp, 1) := dc_148 (by decide +kernel)
theorem dX35_stands_75 : decode cX35_stands 75 = .ok (.ifCond .eq 10, 3) := dc_153 (a := 0) (b := 10) (v := 10) (by decide +kernel)
theorem dX35_stands_78 : decode cX35_stands 78 = .ok (.lload 5, 2) := dc_22 (a := 5) (by decide +kernel)
theorem dX35_stands_80 : decode cX35_stands 80 = .ok (.lconst 0, 1) := dc_9 (by decide +kernel)
theorem dX35_stands_81 : decode cX35_stands 81 = .ok (.lcmp, 1) := dc_148 (by decide +kernel)
theorem dX35_stands_82 : decode cX35_stands 82 = .ok (.ifCond .ne 6, 3) := dc_154 (a := 0) (b := 6) (v := 6) (by decide +kernel)
theorem dX35_stands_85 : decode cX35_stands 85 = .ok (.lload 7, 2) := dc_22 (a := 7) (by decide +kernel)
theorem dX35_stands_87 : decode cX35_stands 87 = .ok (.lreturn, 1) := dc_173 (by decide +kernel)
theorem dX35_stands_88 : decode cX35_stands 88 = .ok (.lload_n 2, 1) := dc_32 (by decide +kernel)
theorem dX35_stands_89 : decode cX35_stands 89 = .ok (.lconst 0, 1) := dc_9 (by decide +kernel)
theorem dX35_stands_90 : decode cX35_stands 90 = .ok (.lcmp, 1) := dc_148 (by decide +kernel)
theorem dX35_stands_91 : decode cX35_stands 91 = .ok (.ifCond .le 20, 3) := dc_158 (a := 0) (b := 20) (v := 20) (by decide +kernel)
theorem dX35_stands_94 : decode cX35_stands 94 = .ok (.lload 7, 2) := dc_22 (a := 7) (by decide +kernel)
theorem dX35_stands_96 : decode cX35_stands 96 = .ok (.lload_n 2, 1) := dc_32 (by decide +kernel)
theorem dX35_stands_97 : decode cX35_stands 97 = .ok (.aload_n 0, 1) := dc_42 (by decide +kernel)
theorem dX35_stands_98 : decode cX35_stands 98 = .ok (.getfield 188, 3) := dc_180 (a := 0) (b := 188) (n := 188) (by decide +kernel)
theorem dX35_stands_101 : decode cX35_stands 101 = .ok (.iload 4, 2) := dc_21 (a := 4) (by decide +kernel)
theorem dX35_stands_103 : decode cX35_stands 103 = .ok (.laload, 1) := dc_47 (by decide +kernel)
theorem dX35_stands_104 : decode cX35_stands 104 = .ok (.lload 5, 2) := dc_22 (a := 5) (by decide +kernel)
theorem dX35_stands_106 : decode cX35_stands 106 = .ok (.invokestatic 1082, 3) := dc_184 (a := 4) (b := 58) (n := 1082) (by decide +kernel)
theorem dX35_stands_109 : decode cX35_stands 109 = .ok (.ladd, 1) := dc_97 (by decide +kernel)
theorem dX35_stands_110 : decode cX35_stands 110 = .ok (.lreturn, 1) := dc_173 (by decide +kernel)
theorem dX35_stands_111 : decode cX35_stands 111 = .ok (.lload 7, 2) := dc_22 (a := 7) (by decide +kernel)
theorem dX35_stands_113 : decode cX35_stands 113 = .ok (.lload_n 2, 1) := dc_32 (by decide +kernel)
theorem dX35_stands_114 : decode cX35_stands 114 = .ok (.lneg, 1) := dc_117 (by decide +kernel)
theorem dX35_stands_115 : decode cX35_stands 115 = .ok (.lload 5, 2) := dc_22 (a := 5) (by decide +kernel)
theorem dX35_stands_117 : decode cX35_stands 117 = .ok (.lcmp, 1) := dc_148 (by decide +kernel)
theorem dX35_stands_118 : decode cX35_stands 118 = .ok (.ifCond .ge 8, 3) := dc_156 (a := 0) (b := 8) (v := 8) (by decide +kernel)
theorem dX35_stands_121 : decode cX35_stands 121 = .ok (.lload_n 2, 1) := dc_32 (by decide +kernel)
theorem dX35_stands_122 : decode cX35_stands 122 = .ok (.lneg, 1) := dc_117 (by decide +kernel)
theorem dX35_stands_123 : decode cX35_stands 123 = .ok (.goto 5, 3) := dc_167 (a := 0) (b := 5) (v := 5) (by decide +kernel)
theorem dX35_stands_126 : decode cX35_stands 126 = .ok (.lload 5, 2) := dc_22 (a := 5) (by decide +kernel)
theorem dX35_stands_128 : decode cX35_stands 128 = .ok (.aload_n 0, 1) := dc_42 (by decide +kernel)
theorem dX35_stands_129 : decode cX35_stands 129 = .ok (.getfield 966, 3) := dc_180 (a := 3) (b := 198) (n := 966) (by decide +kernel)
theorem dX35_stands_132 : decode cX35_stands 132 = .ok (.lload 5, 2) := dc_22 (a := 5) (by decide +kernel)
theorem dX35_stands_134 : decode cX35_stands 134 = .ok (.invokestatic 1082, 3) := dc_184 (a := 4) (b := 58) (n := 1082) (by decide +kernel)
theorem dX35_stands_137 : decode cX35_stands 137 = .ok (.lsub, 1) := dc_101 (by decide +kernel)
theorem dX35_stands_138 : decode cX35_stands 138 = .ok (.lreturn, 1) := dc_173 (by decide +kernel)
def fX35_stands_b85 (N : Nat) (l7 : Int64) (h : eH) : Option (Int64 × eH) :=
  some (l7, h)
theorem pX35_stands_b85 {w : eW} {d : Nat} (hd : 2 ≤ d + 1) {N : Nat} {l7 : Int64} {h : eH} {q} (hf : fX35_stands_b85 N l7 h = some q) : wp w (d + 1) YX35_stands 85 [none, none, none, none, none, none, none, some (.long l7), none] [] h (e_is (e_rn c_J q)) := by
  unfold fX35_stands_b85 at hf
  refine w_lload dX35_stands_85 rfl ?_
  cases hf
  exact w_lret dX35_stands_87 rfl rfl
def fX35_stands_b128 (N : Nat) (l0 : Nat) (l5 : Int64) (s0 : Int64) (s1 : Int64) (h : eH) : Option (Int64 × eH) :=
  (g_J 34 h l0 85).bind fun x1 =>
  (fX35_nearestOf N s1 x1 l5 h).bind fun q3 =>
  some ((s0 - q3.1), q3.2)
theorem pX35_stands_b128 {w : eW} {d : Nat} (hd : 2 ≤ d + 1) {N : Nat} {l0 : Nat} {l5 : Int64} {s0 : Int64} {s1 : Int64} {h : eH} {q} (hf : fX35_stands_b128 N l0 l5 s0 s1 h = some q) : wp w (d + 1) YX35_stands 128 [some (.ref l0), none, none, none, none, some (.long l5), none, none, none] [.long s1, .long s0] h (e_is (e_rn c_J q)) := by
  unfold fX35_stands_b128 at hf
  refine w_aload_n dX35_stands_128 rfl rfl ?_
  obtain ⟨x1, b2, hf⟩ := Option.bind_eq_some_iff.mp hf
  refine GX35_966 b2 dX35_stands_129 rfl ?_
  refine w_lload dX35_stands_132 rfl ?_
  refine x_cnJ hf (e_stS (Yc := YX35_nearestOf) (av := [.long s1, .long x1, .long l5]) (st := [.long s0]) dX35_stands_134 q5531 mX35_nearestOf) mX35_nearestOf.2.2.1 mX35_nearestOf.2.2.2.2.1 (Nat.le_of_ble_eq_true rfl) (Nat.le_of_ble_eq_true rfl) (fun q hq => pX35_nearestOf (by omega) hq) (fun q3 hf => ?_)
  refine w_lsub dX35_stands_137 ?_
  cases hf
  exact w_lret dX35_stands_138 rfl rfl
def fX35_stands_b46 (N : Nat) (l0 : Nat) (l1 : Int32) (l2 : Int64) (l4 : Int32) (s0 : Int64) (h : eH) : Option (Int64 × eH) :=
  (k_ok 34 h l0).bind fun _ =>
  (fX35_addUpTo N l0 l1 h).bind fun q2 =>
  (g_J 34 q2.2 l0 79).bind fun x3 =>
  (g_J 34 q2.2 l0 80).bind fun x5 =>
  (g_A 34 q2.2 l0 89).bind fun a7 =>
  (r_I 100 q2.2 a7 l1).bind fun x9 =>
  if (lg_cmp l2 (0 : Int64)) = 0 then
    fX35_stands_b85 N ((x3 + x5) + (x9).toInt64) q2.2
  else
    if ¬ (lg_cmp s0 (0 : Int64)) = 0 then
      if (lg_cmp l2 (0 : Int64)) ≤ 0 then
        if 0 ≤ (lg_cmp (-l2) s0) then
          fX35_stands_b128 N l0 s0 ((x3 + x5) + (x9).toInt64) s0 q2.2
        else
          fX35_stands_b128 N l0 s0 ((x3 + x5) + (x9).toInt64) (-l2) q2.2
      else
        (g_A 34 q2.2 l0 83).bind fun a15 =>
        (r_J q2.2 a15 l4).bind fun x17 =>
        (fX35_nearestOf N l2 x17 s0 q2.2).bind fun q19 =>
        some ((((x3 + x5) + (x9).toInt64) + q19.1), q19.2)
    else
      fX35_stands_b85 N ((x3 + x5) + (x9).toInt64) q2.2
theorem pX35_stands_b46 {w : eW} {d : Nat} (hd : 2 ≤ d + 1) {N : Nat} {l0 : Nat} {l1 : Int32} {l2 : Int64} {l4 : Int32} {s0 : Int64} {h : eH} {q} (hf : fX35_stands_b46 N l0 l1 l2 l4 s0 h = some q) : wp w (d + 1) YX35_stands 46 [some (.ref l0), some (.int l1), some (.long l2), none, some (.int l4), none, none, none, none] [.long s0] h (e_is (e_rn c_J q)) := by
  unfold fX35_stands_b46 at hf
  refine w_lstore dX35_stands_46 (by decide) (ls' := [some (.ref l0), some (.int l1), some (.long l2), none, some (.int l4), some (.long s0), none, none, none]) rfl ?_
  refine w_aload_n dX35_stands_48 rfl rfl ?_
  refine w_iload_n dX35_stands_49 rfl rfl ?_
  obtain ⟨_, b1, hf⟩ := Option.bind_eq_some_iff.mp hf
  refine x_cnV hf (e_stV (Yc := YX35_addUpTo) (ci := 34) (av := [.int l1]) (st := []) dX35_stands_50 q5481 mX35_addUpTo rfl (k_ok_some b1).1 (k_ok_some b1).2) mX35_addUpTo.2.2.1 mX35_addUpTo.2.2.2.2.1 (Nat.le_of_ble_eq_true rfl) (Nat.le_of_ble_eq_true rfl) (fun q hq => pX35_addUpTo (by omega) hq) (fun q2 hf => ?_)
  refine w_aload_n dX35_stands_53 rfl rfl ?_
  obtain ⟨x3, b4, hf⟩ := Option.bind_eq_some_iff.mp hf
  refine GX35_952 b4 dX35_stands_54 rfl ?_
  refine w_aload_n dX35_stands_57 rfl rfl ?_
  obtain ⟨x5, b6, hf⟩ := Option.bind_eq_some_iff.mp hf
  refine GX35_957 b6 dX35_stands_58 rfl ?_
  refine w_ladd dX35_stands_61 ?_
  refine w_aload_n dX35_stands_62 rfl rfl ?_
  obtain ⟨a7, b8, hf⟩ := Option.bind_eq_some_iff.mp hf
  refine GX35_201 b8 dX35_stands_63 rfl ?_
  refine w_iload_n dX35_stands_66 rfl rfl ?_
  obtain ⟨x9, b10, hf⟩ := Option.bind_eq_some_iff.mp hf
  refine x_rI b10 dX35_stands_67 ?_
  refine w_i2l dX35_stands_68 ?_
  refine w_ladd dX35_stands_69 ?_
  refine w_lstore dX35_stands_70 (by decide) (ls' := [some (.ref l0), some (.int l1), some (.long l2), none, some (.int l4), some (.long s0), none, some (.long ((x3 + x5) + (x9).toInt64)), none]) rfl ?_
  refine w_lload_n dX35_stands_72 rfl rfl ?_
  refine w_lconst dX35_stands_73 (v := 0) (by decide) ?_
  refine w_lcmp dX35_stands_74 ?_
  refine w_if_eq 85 dX35_stands_75 (by decide) (fun c11 => ?_) (fun c11 => ?_)
  · replace hf := (if_pos (show (lg_cmp l2 (0 : Int64)) = 0 from c11)).symm.trans hf
    exact (pX35_stands_b85 hd hf).to ⟨rfl, trivial⟩
  · replace hf := (if_neg (show ¬ ((lg_cmp l2 (0 : Int64)) = 0) from c11)).symm.trans hf
    refine w_lload dX35_stands_78 rfl ?_
    refine w_lconst dX35_stands_80 (v := 0) (by decide) ?_
    refine w_lcmp dX35_stands_81 ?_
    refine w_if_ne 88 dX35_stands_82 (by decide) (fun c12 => ?_) (fun c12 => ?_)
    · replace hf := (if_pos (show ¬ (lg_cmp s0 (0 : Int64)) = 0 from c12)).symm.trans hf
      refine w_lload_n dX35_stands_88 rfl rfl ?_
      refine w_lconst dX35_stands_89 (v := 0) (by decide) ?_
      refine w_lcmp dX35_stands_90 ?_
      refine w_if_le 111 dX35_stands_91 (by decide) (fun c13 => ?_) (fun c13 => ?_)
      · replace hf := (if_pos (show (lg_cmp l2 (0 : Int64)) ≤ 0 from c13)).symm.trans hf
        refine w_lload dX35_stands_111 rfl ?_
        refine w_lload_n dX35_stands_113 rfl rfl ?_
        refine w_lneg dX35_stands_114 ?_
        refine w_lload dX35_stands_115 rfl ?_
        refine w_lcmp dX35_stands_117 ?_
        refine w_if_ge 126 dX35_stands_118 (by decide) (fun c14 => ?_) (fun c14 => ?_)
        · replace hf := (if_pos (show 0 ≤ (lg_cmp (-l2) s0) from c14)).symm.trans hf
          refine w_lload dX35_stands_126 rfl ?_
          exact (pX35_stands_b128 hd hf).to ⟨rfl, rfl, trivial⟩
        · replace hf := (if_neg (show ¬ (0 ≤ (lg_cmp (-l2) s0)) from c14)).symm.trans hf
          refine w_lload_n dX35_stands_121 rfl rfl ?_
          refine w_lneg dX35_stands_122 ?_
          refine w_goto 128 dX35_stands_123 (by decide) ?_
          exact (pX35_stands_b128 hd hf).to ⟨rfl, rfl, trivial⟩
      · replace hf := (if_neg (show ¬ ((lg_cmp l2 (0 : Int64)) ≤ 0) from c13)).symm.trans hf
        refine w_lload dX35_stands_94 rfl ?_
        refine w_lload_n dX35_stands_96 rfl rfl ?_
        refine w_aload_n dX35_stands_97 rfl rfl ?_
        obtain ⟨a15, b16, hf⟩ := Option.bind_eq_some_iff.mp hf
        refine GX35_188 b16 dX35_stands_98 rfl ?_
        refine w_iload dX35_stands_101 rfl ?_
        obtain ⟨x17, b18, hf⟩ := Option.bind_eq_some_iff.mp hf
        refine x_rJ b18 dX35_stands_103 ?_
        refine w_lload dX35_stands_104 rfl ?_
        refine x_cnJ hf (e_stS (Yc := YX35_nearestOf) (av := [.long l2, .long x17, .long s0]) (st := [.long ((x3 + x5) + (x9).toInt64)]) dX35_stands_106 q5531 mX35_nearestOf) mX35_nearestOf.2.2.1 mX35_nearestOf.2.2.2.2.1 (Nat.le_of_ble_eq_true rfl) (Nat.le_of_ble_eq_true rfl) (fun q hq => pX35_nearestOf (by omega) hq) (fun q19 hf => ?_)
        refine w_ladd dX35_stands_109 ?_
        cases hf
        exact w_lret dX35_stands_110 rfl rfl
    · replace hf := (if_neg (show ¬ (¬ (lg_cmp s0 (0 : Int64)) = 0) from (fun z => z c12))).symm.trans hf
      exact (pX35_stands_b85 hd hf).to ⟨rfl, trivial⟩
def fX35_stands (N : Nat) (this : Nat) (p0 : Int32) (h : eH) : Option (Int64 × eH) :=
  (g_I 34 h this 96).bind fun x1 =>
  (k_ok 34 h this).bind fun _ =>
  (fX35_addUpTo N this x1 h).bind fun q4 =>
  (g_I 34 q4.2 this 98).bind fun x5 =>
  (g_J 34 q4.2 this 79).bind fun x7 =>
  (k_ok 34 q4.2 this).bind fun _ =>
  (fX35_pageOrder N this ((x5).toInt64 - x7) q4.2).bind fun q10 =>
  if (lg_cmp ((x5).toInt64 - x7) (0 : Int64)) ≤ 0 then
    (g_J 34 q10.2 this 85).bind fun x12 =>
    fX35_stands_b46 N this p0 ((x5).toInt64 - x7) q10.1 x12 q10.2
  else
    (g_A 34 q10.2 this 83).bind fun a14 =>
    (r_J q10.2 a14 q10.1).bind fun x16 =>
    fX35_stands_b46 N this p0 ((x5).toInt64 - x7) q10.1 x16 q10.2
theorem pX35_stands {w : eW} {d : Nat} (hd : 2 ≤ d) {N : Nat} {this : Nat} {p0 : Int32} {h : eH} {q} (hf : fX35_stands N this p0 h = some q) : wm w d YX35_stands [.ref this, .int p0] h (e_is (e_rn c_J q)) := by
  obtain ⟨d, rfl⟩ : ∃ e, d = e + 1 := ⟨d - 1, by omega⟩
  show wp w (d + 1) YX35_stands 0 [some (.ref this), some (.int p0), none, none, none, none, none, none, none] [] h _
  unfold fX35_stands at hf
  refine w_aload_n dX35_stands_0 rfl rfl ?_
  refine w_aload_n dX35_stands_1 rfl rfl ?_
  obtain ⟨x1, b2, hf⟩ := Option.bind_eq_some_iff.mp hf
  refine GX35_385 b2 dX35_stands_2 rfl ?_
  obtain ⟨_, b3, hf⟩ := Option.bind_eq_some_iff.mp hf
  refine x_cnV hf (e_stV (Yc := YX35_addUpTo) (ci := 34) (av := [.int x1]) (st := []) dX35_stands_5 q5481 mX35_addUpTo rfl (k_ok_some b3).1 (k_ok_some b3).2) mX35_addUpTo.2.2.1 mX35_addUpTo.2.2.2.2.1 (Nat.le_of_ble_eq_true rfl) (Nat.le_of_ble_eq_true rfl) (fun q hq => pX35_addUpTo (by omega) hq) (fun q4 hf => ?_)
  refine w_aload_n dX35_stands_8 rfl rfl ?_
  obtain ⟨x5, b6, hf⟩ := Option.bind_eq_some_iff.mp hf
  refine GX35_1049 b6 dX35_stands_9 rfl ?_
  refine w_i2l dX35_stands_12 ?_
  refine w_aload_n dX35_stands_13 rfl rfl ?_
  obtain ⟨x7, b8, hf⟩ := Option.bind_eq_some_iff.mp hf
  refine GX35_952 b8 dX35_stands_14 rfl ?_
  refine w_lsub dX35_stands_17 ?_
  refine w_lstore_n dX35_stands_18 rfl (by decide) (ls' := [some (.ref this), some (.int p0), some (.long ((x5).toInt64 - x7)), none, none, none, none, none, none]) rfl ?_
  refine w_aload_n dX35_stands_19 rfl rfl ?_
  refine w_lload_n dX35_stands_20 rfl rfl ?_
  obtain ⟨_, b9, hf⟩ := Option.bind_eq_some_iff.mp hf
  refine x_cnI hf (e_stV (Yc := YX35_pageOrder) (ci := 34) (av := [.long ((x5).toInt64 - x7)]) (st := []) dX35_stands_21 q5527 mX35_pageOrder rfl (k_ok_some b9).1 (k_ok_some b9).2) mX35_pageOrder.2.2.1 mX35_pageOrder.2.2.2.2.1 (Nat.le_of_ble_eq_true rfl) (Nat.le_of_ble_eq_true rfl) (fun q hq => pX35_pageOrder (by omega) hq) (fun q10 hf => ?_)
  refine w_istore dX35_stands_24 (by decide) (ls' := [some (.ref this), some (.int p0), some (.long ((x5).toInt64 - x7)), none, some (.int q10.1), none, none, none, none]) rfl ?_
  refine w_lload_n dX35_stands_26 rfl rfl ?_
  refine w_lconst dX35_stands_27 (v := 0) (by decide) ?_
  refine w_lcmp dX35_stands_28 ?_
  refine w_if_le 42 dX35_stands_29 (by decide) (fun c11 => ?_) (fun c11 => ?_)
  · replace hf := (if_pos (show (lg_cmp ((x5).toInt64 - x7) (0 : Int64)) ≤ 0 from c11)).symm.trans hf
    refine w_aload_n dX35_stands_42 rfl rfl ?_
    obtain ⟨x12, b13, hf⟩ := Option.bind_eq_some_iff.mp hf
    refine GX35_966 b13 dX35_stands_43 rfl ?_
    exact (pX35_stands_b46 hd hf).to ⟨rfl, rfl, rfl, rfl, trivial⟩
  · replace hf := (if_neg (show ¬ ((lg_cmp ((x5).toInt64 - x7) (0 : Int64)) ≤ 0) from c11)).symm.trans hf
    refine w_aload_n dX35_stands_32 rfl rfl ?_
    obtain ⟨a14, b15, hf⟩ := Option.bind_eq_some_iff.mp hf
    refine GX35_188 b15 dX35_stands_33 rfl ?_
    refine w_iload dX35_stands_36 rfl ?_
    obtain ⟨x16, b17, hf⟩ := Option.bind_eq_some_iff.mp hf
    refine x_rJ b17 dX35_stands_38 ?_
    refine w_goto 46 dX35_stands_39 (by decide) ?_
    exact (pX35_stands_b46 hd hf).to ⟨rfl, rfl, rfl, rfl, trivial⟩
abbrev cX35_pageWidth : ByteArray := prog_37_method_159_code
def yX35_pageWidth : MethodName := ⟨RX35, "pageWidth", "()J"⟩
def YX35_pageWidth : eY := (yX35_pageWidth, cX35_pageWidth, 7, (Option.some FieldType.long), [])
theorem mX35_pageWidth : e_mv YX35_pageWidth RX35 0 := ⟨q5584, qs337, q5585, by decide, by decide +kernel, (e_sig (by decide +kernel))⟩
theorem dX35_pageWidth_0 : decode cX35_pageWidth 0 = .ok (.lconst 0, 1) := dc_9 (by decide +kernel)
theorem dX35_pageWidth_1 : decode cX35_pageWidth 1 = .ok (.lstore_n 1, 1) := dc_64 (by decide +kernel)
theorem dX35_pageWidth_2 : decode cX35_pageWidth 2 = .ok (.aload_n 0, 1) := dc_42 (by decide +kernel)
theorem dX35_pageWidth_3 : decode cX35_pageWidth 3 = .ok (.getfield 382, 3) := dc_180 (a := 1) (b := 126) (n := 382) (by decide +kernel)
theorem dX35_pageWidth_6 : decode cX35_pageWidth 6 = .ok (.istore_n 3, 1) := dc_62 (by decide +kernel)
theorem dX35_pageWidth_7 : decode cX35_pageWidth 7 = .ok (.iload_n 3, 1) := dc_29 (by decide +kernel)
theorem dX35_pageWidth_8 : decode cX35_pageWidth 8 = .ok (.aload_n 0, 1) := dc_42 (by decide +kernel)
theorem dX35_pageWidth_9 : decode cX35_pageWidth 9 = .ok (.getfield 385, 3) := dc_180 (a := 1) (b := 129) (n := 385) (by decide +kernel)
theorem dX35_pageWidth_12 : decode cX35_pageWidth 12 = .ok (.if_icmp .ge 102, 3) := dc_162 (a := 0) (b := 102) (v := 102) (by decide +kernel)
theorem dX35_pageWidth_15 : decode cX35_pageWidth 15 = .ok (.aload_n 0, 1) := dc_42 (by decide +kernel)
theorem dX35_pageWidth_16 : decode cX35_pageWidth 16 = .ok (.getfield 195, 3) := dc_180 (a := 0) (b := 195) (n := 195) (by decide +kernel)
theorem dX35_pageWidth_19 : decode cX35_pageWidth 19 = .ok (.iload_n 3, 1) := dc_29 (by decide +kernel)
theorem dX35_pageWidth_20 : decode cX35_pageWidth 20 = .ok (.iaload, 1) := dc_46 (by decide +kernel)
theorem dX35_pageWidth_21 : decode cX35_pageWidth 21 = .ok (.iconst 5, 1) := dc_8 (by decide +kernel)
theorem dX35_pageWidth_22 : decode cX35_pageWidth 22 = .ok (.if_icmp .ne 86, 3) := dc_160 (a := 0) (b := 86) (v := 86) (by decide +kernel)
theorem dX35_pageWidth_25 : decode cX35_pageWidth 25 = .ok (.aload_n 0, 1) := dc_42 (by decide +kernel)
theorem dX35_pageWidth_26 : decode cX35_pageWidth 26 = .ok (.getfield 210, 3) := dc_180 (a := 0) (b := 210) (n := 210) (by decide +kernel)
theorem dX35_pageWidth_29 : decode cX35_pageWidth 29 = .ok (.iload_n 3, 1) := dc_29 (by decide +kernel)
theorem dX35_pageWidth_30 : decode cX35_pageWidth 30 = .ok (.iaload, 1) := dc_46 (by decide +kernel)
theorem dX35_pageWidth_31 : decode cX35_pageWidth 31 = .ok (.ifCond .ge 7, 3) := dc_156 (a := 0) (b := 7) (v := 7) (by decide +kernel)
theorem dX35_pageWidth_34 : decode cX35_pageWidth 34 = .ok (.iconst 1, 1) := dc_4 (by decide +kernel)
theorem dX35_pageWidth_35 : decode cX35_pageWidth 35 = .ok (.goto 4, 3) := dc_167 (a := 0) (b := 4) (v := 4) (by decide +kernel)
theorem dX35_pageWidth_38 : decode cX35_pageWidth 38 = .ok (.iconst 0, 1) := dc_3 (by decide +kernel)
theorem dX35_pageWidth_39 : decode cX35_pageWidth 39 = .ok (.istore 4, 2) := dc_54 (a := 4) (by decide +kernel)
theorem dX35_pageWidth_41 : decode cX35_pageWidth 41 = .ok (.iload 4, 2) := dc_21 (a := 4) (by decide +kernel)
theorem dX35_pageWidth_43 : decode cX35_pageWidth 43 = .ok (.ifCond .eq 29, 3) := dc_153 (a := 0) (b := 29) (v := 29) (by decide +kernel)
theorem dX35_pageWidth_46 : decode cX35_pageWidth 46 = .ok (.aload_n 0, 1) := dc_42 (by decide +kernel)
theorem dX35_pageWidth_47 : decode cX35_pageWidth 47 = .ok (.getfield 213, 3) := dc_180 (a := 0) (b := 213) (n := 213) (by decide +kernel)
theorem dX35_pageWidth_50 : decode cX35_pageWidth 50 = .ok (.iload_n 3, 1) := dc_29 (by decide +kernel)
theorem dX35_pageWidth_51 : decode cX35_pageWidth 51 = .ok (.iaload, 1) := dc_46 (by decide +kernel)
theorem dX35_pageWidth_52 : decode cX35_pageWidth 52 = .ok (.ldc_w 816, 3) := dc_19 (a := 3) (b := 48) (n := 816) (by decide +kernel)
theorem dX35_pageWidth_55 : decode cX35_pageWidth 55 = .ok (.if_icmp .ne 7, 3) := dc_160 (a := 0) (b := 7) (v := 7) (by decide +kernel)
theorem dX35_pageWidth_58 : decode cX35_pageWidth 58 = .ok (.lconst 0, 1) := dc_9 (by decide +kernel)
theorem dX35_pageWidth_59 : decode cX35_pageWidth 59 = .ok (.goto 33, 3) := dc_167 (a := 0) (b := 33) (v := 33) (by decide +kernel)
theorem dX35_pageWidth_62 : decode cX35_pageWidth 62 = .ok (.aload_n 0, 1) := dc_42 (by decide +kernel)
theorem dX35_pageWidth_63 : decode cX35_pageWidth 63 = .ok (.getfield 213, 3) := dc_180 (a := 0) (b := 213) (n := 213) (by decide +kernel)
theorem dX35_pageWidth_66 : decode cX35_pageWidth 66 = .ok (.iload_n 3, 1) := dc_29 (by decide +kernel)
theorem dX35_pageWidth_67 : decode cX35_pageWidth 67 = .ok (.iaload, 1) := dc_46 (by decide +kernel)
theorem dX35_pageWidth_68 : decode cX35_pageWidth 68 = .ok (.i2l, 1) := dc_133 (by decide +kernel)
theorem dX35_pageWidth_69 : decode cX35_pageWidth 69 = .ok (.goto 23, 3) := dc_167 (a := 0) (b := 23) (v := 23) (by decide +kernel)
theorem dX35_pageWidth_72 : decode cX35_pageWidth 72 = .ok (.aload_n 0, 1) := dc_42 (by decide +kernel)
theorem dX35_pageWidth_73 : decode cX35_pageWidth 73 = .ok (.getfield 157, 3) := dc_180 (a := 0) (b := 157) (n := 157) (by decide +kernel)
theorem dX35_pageWidth_76 : decode cX35_pageWidth 76 = .ok (.aload_n 0, 1) := dc_42 (by decide +kernel)
theorem dX35_pageWidth_77 : decode cX35_pageWidth 77 = .ok (.getfield 210, 3) := dc_180 (a := 0) (b := 210) (n := 210) (by decide +kernel)
theorem dX35_pageWidth_80 : decode cX35_pageWidth 80 = .ok (.iload_n 3, 1) := dc_29 (by decide +kernel)
theorem dX35_pageWidth_81 : decode cX35_pageWidth 81 = .ok (.iaload, 1) := dc_46 (by decide +kernel)
theorem dX35_pageWidth_82 : decode cX35_pageWidth 82 = .ok (.iaload, 1) := dc_46 (by decide +kernel)
theorem dX35_pageWidth_83 : decode cX35_pageWidth 83 = .ok (.i2l, 1) := dc_133 (by decide +kernel)
theorem dX35_pageWidth_84 : decode cX35_pageWidth 84 = .ok (.aload_n 0, 1) := dc_42 (by decide +kernel)
theorem dX35_pageWidth_85 : decode cX35_pageWidth 85 = .ok (.getfield 213, 3) := dc_180 (a := 0) (b := 213) (n := 213) (by decide +kernel)
theorem dX35_pageWidth_88 : decode cX35_pageWidth 88 = .ok (.iload_n 3, 1) := dc_29 (by decide +kernel)
theorem dX35_pageWidth_89 : decode cX35_pageWidth 89 = .ok (.iaload, 1) := dc_46 (by decide +kernel)
theorem dX35_pageWidth_90 : decode cX35_pageWidth 90 = .ok (.i2l, 1) := dc_133 (by decide +kernel)
theorem dX35_pageWidth_91 : decode cX35_pageWidth 91 = .ok (.ladd, 1) := dc_97 (by decide +kernel)
theorem dX35_pageWidth_92 : decode cX35_pageWidth 92 = .ok (.lstore 5, 2) := dc_55 (a := 5) (by decide +kernel)
theorem dX35_pageWidth_94 : decode cX35_pageWidth 94 = .ok (.lload 5, 2) := dc_22 (a := 5) (by decide +kernel)
theorem dX35_pageWidth_96 : decode cX35_pageWidth 96 = .ok (.lload_n 1, 1) := dc_31 (by decide +kernel)
theorem dX35_pageWidth_97 : decode cX35_pageWidth 97 = .ok (.lcmp, 1) := dc_148 (by decide +kernel)
theorem dX35_pageWidth_98 : decode cX35_pageWidth 98 = .ok (.ifCond .le 8, 3) := dc_158 (a := 0) (b := 8) (v := 8) (by decide +kernel)
theorem dX35_pageWidth_101 : decode cX35_pageWidth 101 = .ok (.lload 5, 2) := dc_22 (a := 5) (by decide +kernel)
theorem dX35_pageWidth_103 : decode cX35_pageWidth 103 = .ok (.goto 4, 3) := dc_167 (a := 0) (b := 4) (v := 4) (by decide +kernel)
theorem dX35_pageWidth_106 : decode cX35_pageWidth 106 = .ok (.lload_n 1, 1) := dc_31 (by decide +kernel)
theorem dX35_pageWidth_107 : decode cX35_pageWidth 107 = .ok (.lstore_n 1, 1) := dc_64 (by decide +kernel)
theorem dX35_pageWidth_108 : decode cX35_pageWidth 108 = .ok (.iinc 3 1, 3) := dc_132 (a := 3) (b := 1) (v := 1) (by decide +kernel)
theorem dX35_pageWidth_111 : decode cX35_pageWidth 111 = .ok (.goto (-104), 3) := dc_167 (a := 255) (b := 152) (v := -104) (by decide +kernel)
theorem dX35_pageWidth_114 : decode cX35_pageWidth 114 = .ok (.lload_n 1, 1) := dc_31 (by decide +kernel)
theorem dX35_pageWidth_115 : decode cX35_pageWidth 115 = .ok (.lreturn, 1) := dc_173 (by decide +kernel)
theorem GX35_210 {w : eW} {d : Nat} {Y : eY} {pc : Nat} {ls : eL} {st : List Value} {h : eH} {Q : eO → eH → Prop} {a : Nat} {x : Nat} (hf : g_A 34 h a 92 = some x) (hd : decode Y.2.1 pc = .ok (.getfield 210, 3)) (hY : Y.1.cls = RX35) (kk : wp w d Y (pc + 3) ls (.ref x :: st) h Q) : wp w d Y pc ls (.ref a :: st) h Q := x_gA (ci := 34) (k := 92) hf hd rfl (by decide) (by rw [hY]; exact q4593) kk
theorem GX35_213 {w : eW} {d : Nat} {Y : eY} {pc : Nat} {ls : eL} {st : List Value} {h : eH} {Q : eO → eH → Prop} {a : Nat} {x : Nat} (hf : g_A 34 h a 93 = some x) (hd : decode Y.2.1 pc = .ok (.getfield 213, 3)) (hY : Y.1.cls = RX35) (kk : wp w d Y (pc + 3) ls (.ref x :: st) h Q) : wp w d Y pc ls (.ref a :: st) h Q := x_gA (ci := 34) (k := 93) hf hd rfl (by decide) (by rw [hY]; exact q4594) kk
def fX35_pageWidth_b108 (N : Nat) (k7 : Nat → Int64 → Int32 → eH → Option (Int64 × eH)) (l0 : Nat) (l1 : Int64) (l3 : Int32) (h : eH) : Option (Int64 × eH) :=
  k7 l0 l1 (l3 + (1 : Int32)) h
theorem pX35_pageWidth_b108 {w : eW} {d : Nat} (hd : 0 ≤ d) {N : Nat} {k7 : Nat → Int64 → Int32 → eH → Option (Int64 × eH)} (hk7 : ∀ l0 l1 l3 h q, k7 l0 l1 l3 h = some q → wp w d YX35_pageWidth 7 [some (.ref l0), some (.long l1), none, some (.int l3), none, none, none] [] h (e_is (e_rn c_J q))) {l0 : Nat} {l1 : Int64} {l3 : Int32} {h : eH} {q} (hf : fX35_pageWidth_b108 N k7 l0 l1 l3 h = some q) : wp w d YX35_pageWidth 108 [some (.ref l0), some (.long l1), none, some (.int l3), none, none, none] [] h (e_is (e_rn c_J q)) := by
  unfold fX35_pageWidth_b108 at hf
  refine w_iinc dX35_pageWidth_108 (v := (l3 + (1 : Int32))) rfl rfl (by decide) (ls' := [some (.ref l0), some (.long l1), none, some (.int (l3 + (1 : Int32))), none, none, none]) rfl ?_
  refine w_goto 7 dX35_pageWidth_111 (by decide) ?_
  exact (hk7 _ _ _ _ _ hf).to ⟨rfl, rfl, rfl, trivial⟩
def fX35_pageWidth_b107 (N : Nat) (k7 : Nat → Int64 → Int32 → eH → Option (Int64 × eH)) (l0 : Nat) (l3 : Int32) (s0 : Int64) (h : eH) : Option (Int64 × eH) :=
  fX35_pageWidth_b108 N k7 l0 s0 l3 h
theorem pX35_pageWidth_b107 {w : eW} {d : Nat} (hd : 0 ≤ d) {N : Nat} {k7 : Nat → Int64 → Int32 → eH → Option (Int64 × eH)} (hk7 : ∀ l0 l1 l3 h q, k7 l0 l1 l3 h = some q → wp w d YX35_pageWidth 7 [some (.ref l0), some (.long l1), none, some (.int l3), none, none, none] [] h (e_is (e_rn c_J q))) {l0 : Nat} {l3 : Int32} {s0 : Int64} {h : eH} {q} (hf : fX35_pageWidth_b107 N k7 l0 l3 s0 h = some q) : wp w d YX35_pageWidth 107 [some (.ref l0), none, none, some (.int l3), none, none, none] [.long s0] h (e_is (e_rn c_J q)) := by
  unfold fX35_pageWidth_b107 at hf
  refine w_lstore_n dX35_pageWidth_107 rfl (by decide) (ls' := [some (.ref l0), some (.long s0), none, some (.int l3), none, none, none]) rfl ?_
  exact (pX35_pageWidth_b108 hd hk7 hf).to ⟨rfl, rfl, rfl, trivial⟩
def fX35_pageWidth_b92 (N : Nat) (k7 : Nat → Int64 → Int32 → eH → Option (Int64 × eH)) (l0 : Nat) (l1 : Int64) (l3 : Int32) (s0 : Int64) (h : eH) : Option (Int64 × eH) :=
  if (lg_cmp s0 l1) ≤ 0 then
    fX35_pageWidth_b107 N k7 l0 l3 l1 h
  else
    fX35_pageWidth_b107 N k7 l0 l3 s0 h
theorem pX35_pageWidth_b92 {w : eW} {d : Nat} (hd : 0 ≤ d) {N : Nat} {k7 : Nat → Int64 → Int32 → eH → Option (Int64 × eH)} (hk7 : ∀ l0 l1 l3 h q, k7 l0 l1 l3 h = some q → wp w d YX35_pageWidth 7 [some (.ref l0), some (.long l1), none, some (.int l3), none, none, none] [] h (e_is (e_rn c_J q))) {l0 : Nat} {l1 : Int64} {l3 : Int32} {s0 : Int64} {h : eH} {q} (hf : fX35_pageWidth_b92 N k7 l0 l1 l3 s0 h = some q) : wp w d YX35_pageWidth 92 [some (.ref l0), some (.long l1), none, some (.int l3), none, none, none] [.long s0] h (e_is (e_rn c_J q)) := by
  unfold fX35_pageWidth_b92 at hf
  refine w_lstore dX35_pageWidth_92 (by decide) (ls' := [some (.ref l0), some (.long l1), none, some (.int l3), none, some (.long s0), none]) rfl ?_
  refine w_lload dX35_pageWidth_94 rfl ?_
  refine w_lload_n dX35_pageWidth_96 rfl rfl ?_
  refine w_lcmp dX35_pageWidth_97 ?_
  refine w_if_le 106 dX35_pageWidth_98 (by decide) (fun c1 => ?_) (fun c1 => ?_)
  · replace hf := (if_pos (show (lg_cmp s0 l1) ≤ 0 from c1)).symm.trans hf
    refine w_lload_n dX35_pageWidth_106 rfl rfl ?_
    exact (pX35_pageWidth_b107 hd hk7 hf).to ⟨rfl, rfl, trivial⟩
  · replace hf := (if_neg (show ¬ ((lg_cmp s0 l1) ≤ 0) from c1)).symm.trans hf
    refine w_lload dX35_pageWidth_101 rfl ?_
    refine w_goto 107 dX35_pageWidth_103 (by decide) ?_
    exact (pX35_pageWidth_b107 hd hk7 hf).to ⟨rfl, rfl, trivial⟩
def fX35_pageWidth_b39 (N : Nat) (k7 : Nat → Int64 → Int32 → eH → Option (Int64 × eH)) (l0 : Nat) (l1 : Int64) (l3 : Int32) (s0 : Int32) (h : eH) : Option (Int64 × eH) :=
  if s0 = 0 then
    (g_A 34 h l0 68).bind fun a2 =>
    (g_A 34 h l0 92).bind fun a4 =>
    (r_I 100 h a4 l3).bind fun x6 =>
    (r_I 100 h a2 x6).bind fun x8 =>
    (g_A 34 h l0 93).bind fun a10 =>
    (r_I 100 h a10 l3).bind fun x12 =>
    fX35_pageWidth_b92 N k7 l0 l1 l3 ((x8).toInt64 + (x12).toInt64) h
  else
    (g_A 34 h l0 93).bind fun a14 =>
    (r_I 100 h a14 l3).bind fun x16 =>
    if ¬ x16 = (-1073741824 : Int32) then
      (g_A 34 h l0 93).bind fun a19 =>
      (r_I 100 h a19 l3).bind fun x21 =>
      fX35_pageWidth_b92 N k7 l0 l1 l3 (x21).toInt64 h
    else
      fX35_pageWidth_b92 N k7 l0 l1 l3 (0 : Int64) h
theorem pX35_pageWidth_b39 {w : eW} {d : Nat} (hd : 0 ≤ d) {N : Nat} {k7 : Nat → Int64 → Int32 → eH → Option (Int64 × eH)} (hk7 : ∀ l0 l1 l3 h q, k7 l0 l1 l3 h = some q → wp w d YX35_pageWidth 7 [some (.ref l0), some (.long l1), none, some (.int l3), none, none, none] [] h (e_is (e_rn c_J q))) {l0 : Nat} {l1 : Int64} {l3 : Int32} {s0 : Int32} {h : eH} {q} (hf : fX35_pageWidth_b39 N k7 l0 l1 l3 s0 h = some q) : wp w d YX35_pageWidth 39 [some (.ref l0), some (.long l1), none, some (.int l3), none, none, none] [.int s0] h (e_is (e_rn c_J q)) := by
  unfold fX35_pageWidth_b39 at hf
  refine w_istore dX35_pageWidth_39 (by decide) (ls' := [some (.ref l0), some (.long l1), none, some (.int l3), some (.int s0), none, none]) rfl ?_
  refine w_iload dX35_pageWidth_41 rfl ?_
  refine w_if_eq 72 dX35_pageWidth_43 (by decide) (fun c1 => ?_) (fun c1 => ?_)
  · replace hf := (if_pos (show s0 = 0 from c1)).symm.trans hf
    refine w_aload_n dX35_pageWidth_72 rfl rfl ?_
    obtain ⟨a2, b3, hf⟩ := Option.bind_eq_some_iff.mp hf
    refine GX35_157 b3 dX35_pageWidth_73 rfl ?_
    refine w_aload_n dX35_pageWidth_76 rfl rfl ?_
    obtain ⟨a4, b5, hf⟩ := Option.bind_eq_some_iff.mp hf
    refine GX35_210 b5 dX35_pageWidth_77 rfl ?_
    refine w_iload_n dX35_pageWidth_80 rfl rfl ?_
    obtain ⟨x6, b7, hf⟩ := Option.bind_eq_some_iff.mp hf
    refine x_rI b7 dX35_pageWidth_81 ?_
    obtain ⟨x8, b9, hf⟩ := Option.bind_eq_some_iff.mp hf
    refine x_rI b9 dX35_pageWidth_82 ?_
    refine w_i2l dX35_pageWidth_83 ?_
    refine w_aload_n dX35_pageWidth_84 rfl rfl ?_
    obtain ⟨a10, b11, hf⟩ := Option.bind_eq_some_iff.mp hf
    refine GX35_213 b11 dX35_pageWidth_85 rfl ?_
    refine w_iload_n dX35_pageWidth_88 rfl rfl ?_
    obtain ⟨x12, b13, hf⟩ := Option.bind_eq_some_iff.mp hf
    refine x_rI b13 dX35_pageWidth_89 ?_
    refine w_i2l dX35_pageWidth_90 ?_
    refine w_ladd dX35_pageWidth_91 ?_
    exact (pX35_pageWidth_b92 hd hk7 hf).to ⟨rfl, rfl, rfl, trivial⟩
  · replace hf := (if_neg (show ¬ (s0 = 0) from c1)).symm.trans hf
    refine w_aload_n dX35_pageWidth_46 rfl rfl ?_
    obtain ⟨a14, b15, hf⟩ := Option.bind_eq_some_iff.mp hf
    refine GX35_213 b15 dX35_pageWidth_47 rfl ?_
    refine w_iload_n dX35_pageWidth_50 rfl rfl ?_
    obtain ⟨x16, b17, hf⟩ := Option.bind_eq_some_iff.mp hf
    refine x_rI b17 dX35_pageWidth_51 ?_
    refine w_ldc_w dX35_pageWidth_52 q5562 ?_
    refine w_icmp_ne 62 dX35_pageWidth_55 (by decide) (fun c18 => ?_) (fun c18 => ?_)
    · replace hf := (if_pos (show ¬ x16 = (-1073741824 : Int32) from c18)).symm.trans hf
      refine w_aload_n dX35_pageWidth_62 rfl rfl ?_
      obtain ⟨a19, b20, hf⟩ := Option.bind_eq_some_iff.mp hf
      refine GX35_213 b20 dX35_pageWidth_63 rfl ?_
      refine w_iload_n dX35_pageWidth_66 rfl rfl ?_
      obtain ⟨x21, b22, hf⟩ := Option.bind_eq_some_iff.mp hf
      refine x_rI b22 dX35_pageWidth_67 ?_
      refine w_i2l dX35_pageWidth_68 ?_
      refine w_goto 92 dX35_pageWidth_69 (by decide) ?_
      exact (pX35_pageWidth_b92 hd hk7 hf).to ⟨rfl, rfl, rfl, trivial⟩
    · replace hf := (if_neg (show ¬ (¬ x16 = (-1073741824 : Int32)) from (fun z => z c18))).symm.trans hf
      refine w_lconst dX35_pageWidth_58 (v := 0) (by decide) ?_
      refine w_goto 92 dX35_pageWidth_59 (by decide) ?_
      exact (pX35_pageWidth_b92 hd hk7 hf).to ⟨rfl, rfl, rfl, trivial⟩
def fX35_pageWidth_b7 (N : Nat) : Nat → Nat → Int64 → Int32 → eH → Option (Int64 × eH)
  | 0, _, _, _, _ => none
  | n + 1, l0, l1, l3, h =>
    (g_I 34 h l0 96).bind fun x1 =>
    if x1 ≤ l3 then
      some (l1, h)
    else
      (g_A 34 h l0 87).bind fun a4 =>
      (r_I 100 h a4 l3).bind fun x6 =>
      if ¬ x6 = (5 : Int32) then
        fX35_pageWidth_b108 N (fX35_pageWidth_b7 N n) l0 l1 l3 h
      else
        (g_A 34 h l0 92).bind fun a9 =>
        (r_I 100 h a9 l3).bind fun x11 =>
        if 0 ≤ x11 then
          fX35_pageWidth_b39 N (fX35_pageWidth_b7 N n) l0 l1 l3 (0 : Int32) h
        else
          fX35_pageWidth_b39 N (fX35_pageWidth_b7 N n) l0 l1 l3 (1 : Int32) h
theorem pX35_pageWidth_b7 {w : eW} {d : Nat} (hd : 0 ≤ d) {N : Nat} : ∀ (n : Nat) l0 l1 l3 h q, fX35_pageWidth_b7 N n l0 l1 l3 h = some q → wp w d YX35_pageWidth 7 [some (.ref l0), some (.long l1), none, some (.int l3), none, none, none] [] h (e_is (e_rn c_J q)) := by
  intro n
  induction n with
  | zero => intro l0 l1 l3 h q hf; simp [fX35_pageWidth_b7] at hf
  | succ n ih =>
    intro l0 l1 l3 h q hf
    rw [fX35_pageWidth_b7] at hf
    refine w_iload_n dX35_pageWidth_7 rfl rfl ?_
    refine w_aload_n dX35_pageWidth_8 rfl rfl ?_
    obtain ⟨x1, b2, hf⟩ := Option.bind_eq_some_iff.mp hf
    refine GX35_385 b2 dX35_pageWidth_9 rfl ?_
    refine w_icmp_ge 114 dX35_pageWidth_12 (by decide) (fun c3 => ?_) (fun c3 => ?_)
    · replace hf := (if_pos (show x1 ≤ l3 from c3)).symm.trans hf
      refine w_lload_n dX35_pageWidth_114 rfl rfl ?_
      cases hf
      exact w_lret dX35_pageWidth_115 rfl rfl
    · replace hf := (if_neg (show ¬ (x1 ≤ l3) from c3)).symm.trans hf
      refine w_aload_n dX35_pageWidth_15 rfl rfl ?_
      obtain ⟨a4, b5, hf⟩ := Option.bind_eq_some_iff.mp hf
      refine GX35_195 b5 dX35_pageWidth_16 rfl ?_
      refine w_iload_n dX35_pageWidth_19 rfl rfl ?_
      obtain ⟨x6, b7, hf⟩ := Option.bind_eq_some_iff.mp hf
      refine x_rI b7 dX35_pageWidth_20 ?_
      refine w_iconst dX35_pageWidth_21 (v := 5) (by decide) ?_
      refine w_icmp_ne 108 dX35_pageWidth_22 (by decide) (fun c8 => ?_) (fun c8 => ?_)
      · replace hf := (if_pos (show ¬ x6 = (5 : Int32) from c8)).symm.trans hf
        exact (pX35_pageWidth_b108 hd ih hf).to ⟨rfl, rfl, rfl, trivial⟩
      · replace hf := (if_neg (show ¬ (¬ x6 = (5 : Int32)) from (fun z => z c8))).symm.trans hf
        refine w_aload_n dX35_pageWidth_25 rfl rfl ?_
        obtain ⟨a9, b10, hf⟩ := Option.bind_eq_some_iff.mp hf
        refine GX35_210 b10 dX35_pageWidth_26 rfl ?_
        refine w_iload_n dX35_pageWidth_29 rfl rfl ?_
        obtain ⟨x11, b12, hf⟩ := Option.bind_eq_some_iff.mp hf
        refine x_rI b12 dX35_pageWidth_30 ?_
        refine w_if_ge 38 dX35_pageWidth_31 (by decide) (fun c13 => ?_) (fun c13 => ?_)
        · replace hf := (if_pos (show 0 ≤ x11 from c13)).symm.trans hf
          refine w_iconst dX35_pageWidth_38 (v := 0) (by decide) ?_
          exact (pX35_pageWidth_b39 hd ih hf).to ⟨rfl, rfl, rfl, trivial⟩
        · replace hf := (if_neg (show ¬ (0 ≤ x11) from c13)).symm.trans hf
          refine w_iconst dX35_pageWidth_34 (v := 1) (by decide) ?_
          refine w_goto 39 dX35_pageWidth_35 (by decide) ?_
          exact (pX35_pageWidth_b39 hd ih hf).to ⟨rfl, rfl, rfl, trivial⟩
def fX35_pageWidth (N : Nat) (this : Nat) (h : eH) : Option (Int64 × eH) :=
  (g_I 34 h this 95).bind fun x1 =>
  fX35_pageWidth_b7 N N this (0 : Int64) x1 h
theorem pX35_pageWidth {w : eW} {d : Nat} (hd : 0 ≤ d) {N : Nat} {this : Nat} {h : eH} {q} (hf : fX35_pageWidth N this h = some q) : wm w d YX35_pageWidth [.ref this] h (e_is (e_rn c_J q)) := by
  show wp w d YX35_pageWidth 0 [some (.ref this), none, none, none, none, none, none] [] h _
  unfold fX35_pageWidth at hf
  refine w_lconst dX35_pageWidth_0 (v := 0) (by decide) ?_
  refine w_lstore_n dX35_pageWidth_1 rfl (by decide) (ls' := [some (.ref this), some (.long (0 : Int64)), none, none, none, none, none]) rfl ?_
  refine w_aload_n dX35_pageWidth_2 rfl rfl ?_
  obtain ⟨x1, b2, hf⟩ := Option.bind_eq_some_iff.mp hf
  refine GX35_382 b2 dX35_pageWidth_3 rfl ?_
  refine w_istore_n dX35_pageWidth_6 rfl (by decide) (ls' := [some (.ref this), some (.long (0 : Int64)), none, some (.int x1), none, none, none]) rfl ?_
  exact (pX35_pageWidth_b7 hd N _ _ _ _ _ hf).to ⟨rfl, rfl, rfl, trivial⟩
abbrev cX35_note : ByteArray := prog_37_method_143_code
def yX35_note : MethodName := ⟨RX35, "note", "(IIJJJJJ)Z"⟩
def YX35_note : eY := (yX35_note, cX35_note, 13, (Option.some FieldType.boolean), [])
theorem mX35_note : e_mv YX35_note RX35 7 := ⟨q5576, qs335, q5577, by decide, by decide +kernel, (e_sig (by decide +kernel))⟩
theorem dX35_note_0 : decode cX35_note 0 = .ok (.aload_n 0, 1) := dc_42 (by decide +kernel)
theorem dX35_note_1 : decode cX35_note 1 = .ok (.getfield 1006, 3) := dc_180 (a := 3) (b := 238) (n := 1006) (by decide +kernel)
theorem dX35_note_4 : decode cX35_note 4 = .ok (.sipush 3000, 3) := dc_17 (a := 11) (b := 184) (v := 3000) (by decide +kernel)
theorem dX35_note_7 : decode cX35_note 7 = .ok (.if_icmp .ne 5, 3) := dc_160 (a := 0) (b := 5) (v := 5) (by decide +kernel)
theorem dX35_note_10 : decode cX35_note 10 = .ok (.iconst 0, 1) := dc_3 (by decide +kernel)
theorem dX35_note_11 : decode cX35_note 11 = .ok (.ireturn, 1) := dc_172 (by decide +kernel)
theorem dX35_note_12 : decode cX35_note 12 = .ok (.aload_n 0, 1) := dc_42 (by decide +kernel)
theorem dX35_note_13 : decode cX35_note 13 = .ok (.getfield 216, 3) := dc_180 (a := 0) (b := 216) (n := 216) (by decide +kernel)
theorem dX35_note_16 : decode cX35_note 16 = .ok (.aload_n 0, 1) := dc_42 (by decide +kernel)
theorem dX35_note_17 : decode cX35_note 17 = .ok (.getfield 1006, 3) := dc_180 (a := 3) (b := 238) (n := 1006) (by decide +kernel)
theorem dX35_note_20 : decode cX35_note 20 = .ok (.iload_n 1, 1) := dc_27 (by decide +kernel)
theorem dX35_note_21 : decode cX35_note 21 = .ok (.iastore, 1) := dc_79 (by decide +kernel)
theorem dX35_note_22 : decode cX35_note 22 = .ok (.aload_n 0, 1) := dc_42 (by decide +kernel)
theorem dX35_note_23 : decode cX35_note 23 = .ok (.getfield 219, 3) := dc_180 (a := 0) (b := 219) (n := 219) (by decide +kernel)
theorem dX35_note_26 : decode cX35_note 26 = .ok (.aload_n 0, 1) := dc_42 (by decide +kernel)
theorem dX35_note_27 : decode cX35_note 27 = .ok (.getfield 1006, 3) := dc_180 (a := 3) (b := 238) (n := 1006) (by decide +kernel)
theorem dX35_note_30 : decode cX35_note 30 = .ok (.iload_n 2, 1) := dc_28 (by decide +kernel)
theorem dX35_note_31 : decode cX35_note 31 = .ok (.iastore, 1) := dc_79 (by decide +kernel)
theorem dX35_note_32 : decode cX35_note 32 = .ok (.aload_n 0, 1) := dc_42 (by decide +kernel)
theorem dX35_note_33 : decode cX35_note 33 = .ok (.getfield 222, 3) := dc_180 (a := 0) (b := 222) (n := 222) (by decide +kernel)
theorem dX35_note_36 : decode cX35_note 36 = .ok (.aload_n 0, 1) := dc_42 (by decide +kernel)
theorem dX35_note_37 : decode cX35_note 37 = .ok (.getfield 1006, 3) := dc_180 (a := 3) (b := 238) (n := 1006) (by decide +kernel)
theorem dX35_note_40 : decode cX35_note 40 = .ok (.lload_n 3, 1) := dc_33 (by decide +kernel)
theorem dX35_note_41 : decode cX35_note 41 = .ok (.lastore, 1) := dc_80 (by decide +kernel)
theorem dX35_note_42 : decode cX35_note 42 = .ok (.aload_n 0, 1) := dc_42 (by decide +kernel)
theorem dX35_note_43 : decode cX35_note 43 = .ok (.getfield 225, 3) := dc_180 (a := 0) (b := 225) (n := 225) (by decide +kernel)
theorem dX35_note_46 : decode cX35_note 46 = .ok (.aload_n 0, 1) := dc_42 (by decide +kernel)
theorem dX35_note_47 : decode cX35_note 47 = .ok (.getfield 1006, 3) := dc_180 (a := 3) (b := 238) (n := 1006) (by decide +kernel)
theorem dX35_note_50 : decode cX35_note 50 = .ok (.lload 5, 2) := dc_22 (a := 5) (by decide +kernel)
theorem dX35_note_52 : decode cX35_note 52 = .ok (.lastore, 1) := dc_80 (by decide +kernel)
theorem dX35_note_53 : decode cX35_note 53 = .ok (.aload_n 0, 1) := dc_42 (by decide +kernel)
theorem dX35_note_54 : decode cX35_note 54 = .ok (.getfield 228, 3) := dc_180 (a := 0) (b := 228) (n := 228) (by decide +kernel)
theorem dX35_note_57 : decode cX35_note 57 = .ok (.aload_n 0, 1) := dc_42 (by decide +kernel)
theorem dX35_note_58 : decode cX35_note 58 = .ok (.getfield 1006, 3) := dc_180 (a := 3) (b := 238) (n := 1006) (by decide +kernel)
theorem dX35_note_61 : decode cX35_note 61 = .ok (.lload 7, 2) := dc_22 (a := 7) (by decide +kernel)
theorem dX35_note_63 : decode cX35_note 63 = .ok (.lastore, 1) := dc_80 (by decide +kernel)
theorem dX35_note_64 : decode cX35_note 64 = .ok (.aload_n 0, 1) := dc_42 (by decide +kernel)
theorem dX35_note_65 : decode cX35_note 65 = .ok (.getfield 231, 3) := dc_180 (a := 0) (b := 231) (n := 231) (by decide +kernel)
theorem dX35_note_68 : decode cX35_note 68 = .ok (.aload_n 0, 1) := dc_42 (by decide +kernel)
theorem dX35_note_69 : decode cX35_note 69 = .ok (.getfield 1006, 3) := dc_180 (a := 3) (b := 238) (n := 1006) (by decide +kernel)
theorem dX35_note_72 : decode cX35_note 72 = .ok (.lload 9, 2) := dc_22 (a := 9) (by decide +kernel)
theorem dX35_note_74 : decode cX35_note 74 = .ok (.lastore, 1) := dc_80 (by decide +kernel)
theorem dX35_note_75 : decode cX35_note 75 = .ok (.aload_n 0, 1) := dc_42 (by decide +kernel)
theorem dX35_note_76 : decode cX35_note 76 = .ok (.getfield 234, 3) := dc_180 (a := 0) (b := 234) (n := 234) (by decide +kernel)
theorem dX35_note_79 : decode cX35_note 79 = .ok (.aload_n 0, 1) := dc_42 (by decide +kernel)
theorem dX35_note_80 : decode cX35_note 80 = .ok (.getfield 1006, 3) := dc_180 (a := 3) (b := 238) (n := 1006) (by decide +kernel)
theorem dX35_note_83 : decode cX35_note 83 = .ok (.lload 11, 2) := dc_22 (a := 11) (by decide +kernel)
theorem dX35_note_85 : decode cX35_note 85 = .ok (.lastore, 1) := dc_80 (by decide +kernel)
theorem dX35_note_86 : decode cX35_note 86 = .ok (.aload_n 0, 1) := dc_42 (by decide +kernel)
theorem dX35_note_87 : decode cX35_note 87 = .ok (.dup, 1) := dc_89 (by decide +kernel)
theorem dX35_note_88 : decode cX35_note 88 = .ok (.getfield 1006, 3) := dc_180 (a := 3) (b := 238) (n := 1006) (by decide +kernel)
theorem dX35_note_91 : decode cX35_note 91 = .ok (.iconst 1, 1) := dc_4 (by decide +kernel)
theorem dX35_note_92 : decode cX35_note 92 = .ok (.iadd, 1) := dc_96 (by decide +kernel)
theorem dX35_note_93 : decode cX35_note 93 = .ok (.putfield 1006, 3) := dc_181 (a := 3) (b := 238) (n := 1006) (by decide +kernel)
theorem dX35_note_96 : decode cX35_note 96 = .ok (.iconst 1, 1) := dc_4 (by decide +kernel)
theorem dX35_note_97 : decode cX35_note 97 = .ok (.ireturn, 1) := dc_172 (by decide +kernel)
theorem GX35_219 {w : eW} {d : Nat} {Y : eY} {pc : Nat} {ls : eL} {st : List Value} {h : eH} {Q : eO → eH → Prop} {a : Nat} {x : Nat} (hf : g_A 34 h a 104 = some x) (hd : decode Y.2.1 pc = .ok (.getfield 219, 3)) (hY : Y.1.cls = RX35) (kk : wp w d Y (pc + 3) ls (.ref x :: st) h Q) : wp w d Y pc ls (.ref a :: st) h Q := x_gA (ci := 34) (k := 104) hf hd rfl (by decide) (by rw [hY]; exact q4605) kk
theorem SX35_1006 {w : eW} {d : Nat} {Y : eY} {pc : Nat} {ls : eL} {st : List Value} {h : eH} {Q : eO → eH → Prop} {a : Nat} {h' : eH} {x : Int32} (hf : p_V 34 h a 102 (.int x) = some h') (hd : decode Y.2.1 pc = .ok (.putfield 1006, 3)) (hY : Y.1.cls = RX35) (kk : wp w d Y (pc + 3) ls st h' Q) : wp w d Y pc ls (.int x :: .ref a :: st) h Q := x_pI (ci := 34) (k := 102) hf hd rfl (by decide) (by rw [hY]; exact q4603) rfl rfl kk
def fX35_note (this : Nat) (p0 : Int32) (p1 : Int32) (p2 : Int64) (p3 : Int64) (p4 : Int64) (p5 : Int64) (p6 : Int64) (h : eH) : Option (Int32 × eH) :=
  (g_I 34 h this 102).bind fun x1 =>
  if ¬ x1 = (3000 : Int32) then
    (g_A 34 h this 103).bind fun a4 =>
    (g_I 34 h this 102).bind fun x6 =>
    (q_V 100 h a4 x6 (.int p0)).bind fun h8 =>
    (g_A 34 h8 this 104).bind fun a10 =>
    (g_I 34 h8 this 102).bind fun x12 =>
    (q_V 100 h8 a10 x12 (.int p1)).bind fun h14 =>
    (g_A 34 h14 this 105).bind fun a16 =>
    (g_I 34 h14 this 102).bind fun x18 =>
    (q_V 101 h14 a16 x18 (.long p2)).bind fun h20 =>
    (g_A 34 h20 this 106).bind fun a22 =>
    (g_I 34 h20 this 102).bind fun x24 =>
    (q_V 101 h20 a22 x24 (.long p3)).bind fun h26 =>
    (g_A 34 h26 this 107).bind fun a28 =>
    (g_I 34 h26 this 102).bind fun x30 =>
    (q_V 101 h26 a28 x30 (.long p4)).bind fun h32 =>
    (g_A 34 h32 this 108).bind fun a34 =>
    (g_I 34 h32 this 102).bind fun x36 =>
    (q_V 101 h32 a34 x36 (.long p5)).bind fun h38 =>
    (g_A 34 h38 this 109).bind fun a40 =>
    (g_I 34 h38 this 102).bind fun x42 =>
    (q_V 101 h38 a40 x42 (.long p6)).bind fun h44 =>
    (g_I 34 h44 this 102).bind fun x46 =>
    (p_V 34 h44 this 102 (.int (x46 + (1 : Int32)))).bind fun h48 =>
    some ((1 : Int32), h48)
  else
    some ((0 : Int32), h)
theorem pX35_note {w : eW} {d : Nat} (hd : 0 ≤ d) {this : Nat} {p0 : Int32} {p1 : Int32} {p2 : Int64} {p3 : Int64} {p4 : Int64} {p5 : Int64} {p6 : Int64} {h : eH} {q} (hf : fX35_note this p0 p1 p2 p3 p4 p5 p6 h = some q) : wm w d YX35_note [.ref this, .int p0, .int p1, .long p2, .long p3, .long p4, .long p5, .long p6] h (e_is (e_rn c_I q)) := by
  show wp w d YX35_note 0 [some (.ref this), some (.int p0), some (.int p1), some (.long p2), none, some (.long p3), none, some (.long p4), none, some (.long p5), none, some (.long p6), none] [] h _
  unfold fX35_note at hf
  refine w_aload_n dX35_note_0 rfl rfl ?_
  obtain ⟨x1, b2, hf⟩ := Option.bind_eq_some_iff.mp hf
  refine GX35_1006 b2 dX35_note_1 rfl ?_
  refine w_sipush dX35_note_4 (v := 3000) (by decide) ?_
  refine w_icmp_ne 12 dX35_note_7 (by decide) (fun c3 => ?_) (fun c3 => ?_)
  · replace hf := (if_pos (show ¬ x1 = (3000 : Int32) from c3)).symm.trans hf
    refine w_aload_n dX35_note_12 rfl rfl ?_
    obtain ⟨a4, b5, hf⟩ := Option.bind_eq_some_iff.mp hf
    refine GX35_216 b5 dX35_note_13 rfl ?_
    refine w_aload_n dX35_note_16 rfl rfl ?_
    obtain ⟨x6, b7, hf⟩ := Option.bind_eq_some_iff.mp hf
    refine GX35_1006 b7 dX35_note_17 rfl ?_
    refine w_iload_n dX35_note_20 rfl rfl ?_
    obtain ⟨h8, b9, hf⟩ := Option.bind_eq_some_iff.mp hf
    refine x_qI b9 dX35_note_21 ?_
    refine w_aload_n dX35_note_22 rfl rfl ?_
    obtain ⟨a10, b11, hf⟩ := Option.bind_eq_some_iff.mp hf
    refine GX35_219 b11 dX35_note_23 rfl ?_
    refine w_aload_n dX35_note_26 rfl rfl ?_
    obtain ⟨x12, b13, hf⟩ := Option.bind_eq_some_iff.mp hf
    refine GX35_1006 b13 dX35_note_27 rfl ?_
    refine w_iload_n dX35_note_30 rfl rfl ?_
    obtain ⟨h14, b15, hf⟩ := Option.bind_eq_some_iff.mp hf
    refine x_qI b15 dX35_note_31 ?_
    refine w_aload_n dX35_note_32 rfl rfl ?_
    obtain ⟨a16, b17, hf⟩ := Option.bind_eq_some_iff.mp hf
    refine GX35_222 b17 dX35_note_33 rfl ?_
    refine w_aload_n dX35_note_36 rfl rfl ?_
    obtain ⟨x18, b19, hf⟩ := Option.bind_eq_some_iff.mp hf
    refine GX35_1006 b19 dX35_note_37 rfl ?_
    refine w_lload_n dX35_note_40 rfl rfl ?_
    obtain ⟨h20, b21, hf⟩ := Option.bind_eq_some_iff.mp hf
    refine x_qJ b21 dX35_note_41 ?_
    refine w_aload_n dX35_note_42 rfl rfl ?_
    obtain ⟨a22, b23, hf⟩ := Option.bind_eq_some_iff.mp hf
    refine GX35_225 b23 dX35_note_43 rfl ?_
    refine w_aload_n dX35_note_46 rfl rfl ?_
    obtain ⟨x24, b25, hf⟩ := Option.bind_eq_some_iff.mp hf
    refine GX35_1006 b25 dX35_note_47 rfl ?_
    refine w_lload dX35_note_50 rfl ?_
    obtain ⟨h26, b27, hf⟩ := Option.bind_eq_some_iff.mp hf
    refine x_qJ b27 dX35_note_52 ?_
    refine w_aload_n dX35_note_53 rfl rfl ?_
    obtain ⟨a28, b29, hf⟩ := Option.bind_eq_some_iff.mp hf
    refine GX35_228 b29 dX35_note_54 rfl ?_
    refine w_aload_n dX35_note_57 rfl rfl ?_
    obtain ⟨x30, b31, hf⟩ := Option.bind_eq_some_iff.mp hf
    refine GX35_1006 b31 dX35_note_58 rfl ?_
    refine w_lload dX35_note_61 rfl ?_
    obtain ⟨h32, b33, hf⟩ := Option.bind_eq_some_iff.mp hf
    refine x_qJ b33 dX35_note_63 ?_
    refine w_aload_n dX35_note_64 rfl rfl ?_
    obtain ⟨a34, b35, hf⟩ := Option.bind_eq_some_iff.mp hf
    refine GX35_231 b35 dX35_note_65 rfl ?_
    refine w_aload_n dX35_note_68 rfl rfl ?_
    obtain ⟨x36, b37, hf⟩ := Option.bind_eq_some_iff.mp hf
    refine GX35_1006 b37 dX35_note_69 rfl ?_
    refine w_lload dX35_note_72 rfl ?_
    obtain ⟨h38, b39, hf⟩ := Option.bind_eq_some_iff.mp hf
    refine x_qJ b39 dX35_note_74 ?_
    refine w_aload_n dX35_note_75 rfl rfl ?_
    obtain ⟨a40, b41, hf⟩ := Option.bind_eq_some_iff.mp hf
    refine GX35_234 b41 dX35_note_76 rfl ?_
    refine w_aload_n dX35_note_79 rfl rfl ?_
    obtain ⟨x42, b43, hf⟩ := Option.bind_eq_some_iff.mp hf
    refine GX35_1006 b43 dX35_note_80 rfl ?_
    refine w_lload dX35_note_83 rfl ?_
    obtain ⟨h44, b45, hf⟩ := Option.bind_eq_some_iff.mp hf
    refine x_qJ b45 dX35_note_85 ?_
    refine w_aload_n dX35_note_86 rfl rfl ?_
    refine w_dup dX35_note_87 rfl ?_
    obtain ⟨x46, b47, hf⟩ := Option.bind_eq_some_iff.mp hf
    refine GX35_1006 b47 dX35_note_88 rfl ?_
    refine w_iconst dX35_note_91 (v := 1) (by decide) ?_
    refine w_iadd dX35_note_92 ?_
    obtain ⟨h48, b49, hf⟩ := Option.bind_eq_some_iff.mp hf
    refine SX35_1006 b49 dX35_note_93 rfl ?_
    refine w_iconst dX35_note_96 (v := 1) (by decide) ?_
    cases hf
    exact w_iret dX35_note_97 rfl rfl rfl
  · replace hf := (if_neg (show ¬ (¬ x1 = (3000 : Int32)) from (fun z => z c3))).symm.trans hf
    refine w_iconst dX35_note_10 (v := 0) (by decide) ?_
    cases hf
    exact w_iret dX35_note_11 rfl rfl rfl
abbrev cX35_layBox : ByteArray := prog_37_method_145_code
def yX35_layBox : MethodName := ⟨RX35, "layBox", "(IJJ)Z"⟩
def YX35_layBox : eY := (yX35_layBox, cX35_layBox, 21, (Option.some FieldType.boolean), [])
theorem mX35_layBox : e_mv YX35_layBox RX35 3 := ⟨q5537, qs327, q5538, by decide, by decide +kernel, (e_sig (by decide +kernel))⟩
theorem dX35_layBox_0 : decode cX35_layBox 0 = .ok (.iconst 1, 1) := dc_4 (by decide +kernel)
theorem dX35_layBox_1 : decode cX35_layBox 1 = .ok (.istore 6, 2) := dc_54 (a := 6) (by decide +kernel)
theorem dX35_layBox_3 : decode cX35_layBox 3 = .ok (.aload_n 0, 1) := dc_42 (by decide +kernel)
theorem dX35_layBox_4 : decode cX35_layBox 4 = .ok (.getfield 151, 3) := dc_180 (a := 0) (b := 151) (n := 151) (by decide +kernel)
theorem dX35_layBox_7 : decode cX35_layBox 7 = .ok (.iload_n 1, 1) := dc_27 (by decide +kernel)
theorem dX35_layBox_8 : decode cX35_layBox 8 = .ok (.iaload, 1) := dc_46 (by decide +kernel)
theorem dX35_layBox_9 : decode cX35_layBox 9 = .ok (.istore 7, 2) := dc_54 (a := 7) (by decide +kernel)
theorem dX35_layBox_11 : decode cX35_layBox 11 = .ok (.iload 7, 2) := dc_21 (a := 7) (by decide +kernel)
theorem dX35_layBox_13 : decode cX35_layBox 13 = .ok (.aload_n 0, 1) := dc_42 (by decide +kernel)
theorem dX35_layBox_14 : decode cX35_layBox 14 = .ok (.getfield 151, 3) := dc_180 (a := 0) (b := 151) (n := 151) (by decide +kernel)
theorem dX35_layBox_17 : decode cX35_layBox 17 = .ok (.iload_n 1, 1) := dc_27 (by decide +kernel)
theorem dX35_layBox_18 : decode cX35_layBox 18 = .ok (.iconst 1, 1) := dc_4 (by decide +kernel)
theorem dX35_layBox_19 : decode cX35_layBox 19 = .ok (.iadd, 1) := dc_96 (by decide +kernel)
theorem dX35_layBox_20 : decode cX35_layBox 20 = .ok (.iaload, 1) := dc_46 (by decide +kernel)
theorem dX35_layBox_21 : decode cX35_layBox 21 = .ok (.if_icmp .ge 386, 3) := dc_162 (a := 1) (b := 130) (v := 386) (by decide +kernel)
theorem dX35_layBox_24 : decode cX35_layBox 24 = .ok (.iload 6, 2) := dc_21 (a := 6) (by decide +kernel)
theorem dX35_layBox_26 : decode cX35_layBox 26 = .ok (.ifCond .eq 381, 3) := dc_153 (a := 1) (b := 125) (v := 381) (by decide +kernel)
theorem dX35_layBox_29 : decode cX35_layBox 29 = .ok (.bipush 6, 2) := dc_16 (a := 6) (v := 6) (by decide +kernel)
theorem dX35_layBox_31 : decode cX35_layBox 31 = .ok (.iload 7, 2) := dc_21 (a := 7) (by decide +kernel)
theorem dX35_layBox_33 : decode cX35_layBox 33 = .ok (.imul, 1) := dc_104 (by decide +kernel)
theorem dX35_layBox_34 : decode cX35_layBox 34 = .ok (.istore 8, 2) := dc_54 (a := 8) (by decide +kernel)
theorem dX35_layBox_36 : decode cX35_layBox 36 = .ok (.aload_n 0, 1) := dc_42 (by decide +kernel)
theorem dX35_layBox_37 : decode cX35_layBox 37 = .ok (.getfield 185, 3) := dc_180 (a := 0) (b := 185) (n := 185) (by decide +kernel)
theorem dX35_layBox_40 : decode cX35_layBox 40 = .ok (.iload 8, 2) := dc_21 (a := 8) (by decide +kernel)
theorem dX35_layBox_42 : decode cX35_layBox 42 = .ok (.iaload, 1) := dc_46 (by decide +kernel)
theorem dX35_layBox_43 : decode cX35_layBox 43 = .ok (.invokestatic 984, 3) := dc_184 (a := 3) (b := 216) (n := 984) (by decide +kernel)
theorem dX35_layBox_46 : decode cX35_layBox 46 = .ok (.ifCond .eq 20, 3) := dc_153 (a := 0) (b := 20) (v := 20) (by decide +kernel)
theorem dX35_layBox_49 : decode cX35_layBox 49 = .ok (.aload_n 0, 1) := dc_42 (by decide +kernel)
theorem dX35_layBox_50 : decode cX35_layBox 50 = .ok (.iload_n 1, 1) := dc_27 (by decide +kernel)
theorem dX35_layBox_51 : decode cX35_layBox 51 = .ok (.iload 7, 2) := dc_21 (a := 7) (by decide +kernel)
theorem dX35_layBox_53 : decode cX35_layBox 53 = .ok (.aload_n 0, 1) := dc_42 (by decide +kernel)
theorem dX35_layBox_54 : decode cX35_layBox 54 = .ok (.getfield 151, 3) := dc_180 (a := 0) (b := 151) (n := 151) (by decide +kernel)
theorem dX35_layBox_57 : decode cX35_layBox 57 = .ok (.iload_n 1, 1) := dc_27 (by decide +kernel)
theorem dX35_layBox_58 : decode cX35_layBox 58 = .ok (.iaload, 1) := dc_46 (by decide +kernel)
theorem dX35_layBox_59 : decode cX35_layBox 59 = .ok (.isub, 1) := dc_100 (by decide +kernel)
theorem dX35_layBox_60 : decode cX35_layBox 60 = .ok (.invokevirtual 1009, 3) := dc_182 (a := 3) (b := 241) (n := 1009) (by decide +kernel)
theorem dX35_layBox_63 : decode cX35_layBox 63 = .ok (.goto 4, 3) := dc_167 (a := 0) (b := 4) (v := 4) (by decide +kernel)
theorem dX35_layBox_66 : decode cX35_layBox 66 = .ok (.lconst 0, 1) := dc_9 (by decide +kernel)
theorem dX35_layBox_67 : decode cX35_layBox 67 = .ok (.lstore 9, 2) := dc_55 (a := 9) (by decide +kernel)
theorem dX35_layBox_69 : decode cX35_layBox 69 = .ok (.aload_n 0, 1) := dc_42 (by decide +kernel)
theorem dX35_layBox_70 : decode cX35_layBox 70 = .ok (.getfield 154, 3) := dc_180 (a := 0) (b := 154) (n := 154) (by decide +kernel)
theorem dX35_layBox_73 : decode cX35_layBox 73 = .ok (.iload_n 1, 1) := dc_27 (by decide +kernel)
theorem dX35_layBox_74 : decode cX35_layBox 74 = .ok (.baload, 1) := dc_51 (by decide +kernel)
theorem dX35_layBox_75 : decode cX35_layBox 75 = .ok (.ifCond .eq 7, 3) := dc_153 (a := 0) (b := 7) (v := 7) (by decide +kernel)
theorem dX35_layBox_78 : decode cX35_layBox 78 = .ok (.lload_n 2, 1) := dc_32 (by decide +kernel)
theorem dX35_layBox_79 : decode cX35_layBox 79 = .ok (.goto 7, 3) := dc_167 (a := 0) (b := 7) (v := 7) (by decide +kernel)
theorem dX35_layBox_82 : decode cX35_layBox 82 = .ok (.lload_n 2, 1) := dc_32 (by decide +kernel)
theorem dX35_layBox_83 : decode cX35_layBox 83 = .ok (.lload 9, 2) := dc_22 (a := 9) (by decide +kernel)
theorem dX35_layBox_85 : decode cX35_layBox 85 = .ok (.ladd, 1) := dc_97 (by decide +kernel)
theorem dX35_layBox_86 : decode cX35_layBox 86 = .ok (.lstore 11, 2) := dc_55 (a := 11) (by decide +kernel)
theorem dX35_layBox_88 : decode cX35_layBox 88 = .ok (.aload_n 0, 1) := dc_42 (by decide +kernel)
theorem dX35_layBox_89 : decode cX35_layBox 89 = .ok (.getfield 154, 3) := dc_180 (a := 0) (b := 154) (n := 154) (by decide +kernel)
theorem dX35_layBox_92 : decode cX35_layBox 92 = .ok (.iload_n 1, 1) := dc_27 (by decide +kernel)
theorem dX35_layBox_93 : decode cX35_layBox 93 = .ok (.baload, 1) := dc_51 (by decide +kernel)
theorem dX35_layBox_94 : decode cX35_layBox 94 = .ok (.ifCond .eq 19, 3) := dc_153 (a := 0) (b := 19) (v := 19) (by decide +kernel)
theorem dX35_layBox_97 : decode cX35_layBox 97 = .ok (.lload 4, 2) := dc_22 (a := 4) (by decide +kernel)
theorem dX35_layBox_99 : decode cX35_layBox 99 = .ok (.aload_n 0, 1) := dc_42 (by decide +kernel)
theorem dX35_layBox_100 : decode cX35_layBox 100 = .ok (.getfield 160, 3) := dc_180 (a := 0) (b := 160) (n := 160) (by decide +kernel)
theorem dX35_layBox_103 : decode cX35_layBox 103 = .ok (.iload_n 1, 1) := dc_27 (by decide +kernel)
theorem dX35_layBox_104 : decode cX35_layBox 104 = .ok (.iaload, 1) := dc_46 (by decide +kernel)
theorem dX35_layBox_105 : decode cX35_layBox 105 = .ok (.i2l, 1) := dc_133 (by decide +kernel)
theorem dX35_layBox_106 : decode cX35_layBox 106 = .ok (.lsub, 1) := dc_101 (by decide +kernel)
theorem dX35_layBox_107 : decode cX35_layBox 107 = .ok (.lload 9, 2) := dc_22 (a := 9) (by decide +kernel)
theorem dX35_layBox_109 : decode cX35_layBox 109 = .ok (.ladd, 1) := dc_97 (by decide +kernel)
theorem dX35_layBox_110 : decode cX35_layBox 110 = .ok (.goto 5, 3) := dc_167 (a := 0) (b := 5) (v := 5) (by decide +kernel)
theorem dX35_layBox_113 : decode cX35_layBox 113 = .ok (.lload 4, 2) := dc_22 (a := 4) (by decide +kernel)
theorem dX35_layBox_115 : decode cX35_layBox 115 = .ok (.lstore 13, 2) := dc_55 (a := 13) (by decide +kernel)
theorem dX35_layBox_117 : decode cX35_layBox 117 = .ok (.aload_n 0, 1) := dc_42 (by decide +kernel)
theorem dX35_layBox_118 : decode cX35_layBox 118 = .ok (.getfield 185, 3) := dc_180 (a := 0) (b := 185) (n := 185) (by decide +kernel)
theorem dX35_layBox_121 : decode cX35_layBox 121 = .ok (.iload 8, 2) := dc_21 (a := 8) (by decide +kernel)
theorem dX35_layBox_123 : decode cX35_layBox 123 = .ok (.iaload, 1) := dc_46 (by decide +kernel)
theorem dX35_layBox_124 : decode cX35_layBox 124 = .ok (.ifCond .ne 89, 3) := dc_154 (a := 0) (b := 89) (v := 89) (by decide +kernel)
theorem dX35_layBox_127 : decode cX35_layBox 127 = .ok (.aload_n 0, 1) := dc_42 (by decide +kernel)
theorem dX35_layBox_128 : decode cX35_layBox 128 = .ok (.aload_n 0, 1) := dc_42 (by decide +kernel)
theorem dX35_layBox_129 : decode cX35_layBox 129 = .ok (.getfield 185, 3) := dc_180 (a := 0) (b := 185) (n := 185) (by decide +kernel)
theorem dX35_layBox_132 : decode cX35_layBox 132 = .ok (.iload 8, 2) := dc_21 (a := 8) (by decide +kernel)
theorem dX35_layBox_134 : decode cX35_layBox 134 = .ok (.iconst 1, 1) := dc_4 (by decide +kernel)
theorem dX35_layBox_135 : decode cX35_layBox 135 = .ok (.iadd, 1) := dc_96 (by decide +kernel)
theorem dX35_layBox_136 : decode cX35_layBox 136 = .ok (.iaload, 1) := dc_46 (by decide +kernel)
theorem dX35_layBox_137 : decode cX35_layBox 137 = .ok (.aload_n 0, 1) := dc_42 (by decide +kernel)
theorem dX35_layBox_138 : decode cX35_layBox 138 = .ok (.getfield 185, 3) := dc_180 (a := 0) (b := 185) (n := 185) (by decide +kernel)
theorem dX35_layBox_141 : decode cX35_layBox 141 = .ok (.iload 8, 2) := dc_21 (a := 8) (by decide +kernel)
theorem dX35_layBox_143 : decode cX35_layBox 143 = .ok (.iconst 2, 1) := dc_5 (by decide +kernel)
theorem dX35_layBox_144 : decode cX35_layBox 144 = .ok (.iadd, 1) := dc_96 (by decide +kernel)
theorem dX35_layBox_145 : decode cX35_layBox 145 = .ok (.iaload, 1) := dc_46 (by decide +kernel)
theorem dX35_layBox_146 : decode cX35_layBox 146 = .ok (.lload 11, 2) := dc_22 (a := 11) (by decide +kernel)
theorem dX35_layBox_148 : decode cX35_layBox 148 = .ok (.aload_n 0, 1) := dc_42 (by decide +kernel)
theorem dX35_layBox_149 : decode cX35_layBox 149 = .ok (.getfield 154, 3) := dc_180 (a := 0) (b := 154) (n := 154) (by decide +kernel)
theorem dX35_layBox_152 : decode cX35_layBox 152 = .ok (.iload_n 1, 1) := dc_27 (by decide +kernel)
theorem dX35_layBox_153 : decode cX35_layBox 153 = .ok (.baload, 1) := dc_51 (by decide +kernel)
theorem dX35_layBox_154 : decode cX35_layBox 154 = .ok (.ifCond .eq 19, 3) := dc_153 (a := 0) (b := 19) (v := 19) (by decide +kernel)
theorem dX35_layBox_157 : decode cX35_layBox 157 = .ok (.lload 13, 2) := dc_22 (a := 13) (by decide +kernel)
theorem dX35_layBox_159 : decode cX35_layBox 159 = .ok (.aload_n 0, 1) := dc_42 (by decide +kernel)
theorem dX35_layBox_160 : decode cX35_layBox 160 = .ok (.getfield 185, 3) := dc_180 (a := 0) (b := 185) (n := 185) (by decide +kernel)
theorem dX35_layBox_163 : decode cX35_layBox 163 = .ok (.iload 8, 2) := dc_21 (a := 8) (by decide +kernel)
theorem dX35_layBox_165 : decode cX35_layBox 165 = .ok (.iconst 4, 1) := dc_7 (by decide +kernel)
theorem dX35_layBox_166 : decode cX35_layBox 166 = .ok (.iadd, 1) := dc_96 (by decide +kernel)
theorem dX35_layBox_167 : decode cX35_layBox 167 = .ok (.iaload, 1) := dc_46 (by decide +kernel)
theorem dX35_layBox_168 : decode cX35_layBox 168 = .ok (.i2l, 1) := dc_133 (by decide +kernel)
theorem dX35_layBox_169 : decode cX35_layBox 169 = .ok (.ladd, 1) := dc_97 (by decide +kernel)
theorem dX35_layBox_170 : decode cX35_layBox 170 = .ok (.goto 5, 3) := dc_167 (a := 0) (b := 5) (v := 5) (by decide +kernel)
theorem dX35_layBox_173 : decode cX35_layBox 173 = .ok (.lload 13, 2) := dc_22 (a := 13) (by decide +kernel)
theorem dX35_layBox_175 : decode cX35_layBox 175 = .ok (.aload_n 0, 1) := dc_42 (by decide +kernel)
theorem dX35_layBox_176 : decode cX35_layBox 176 = .ok (.getfield 185, 3) := dc_180 (a := 0) (b := 185) (n := 185) (by decide +kernel)
theorem dX35_layBox_179 : decode cX35_layBox 179 = .ok (.iload 8, 2) := dc_21 (a := 8) (by decide +kernel)
theorem dX35_layBox_181 : decode cX35_layBox 181 = .ok (.iconst 3, 1) := dc_6 (by decide +kernel)
theorem dX35_layBox_182 : decode cX35_layBox 182 = .ok (.iadd, 1) := dc_96 (by decide +kernel)
theorem dX35_layBox_183 : decode cX35_layBox 183 = .ok (.iaload, 1) := dc_46 (by decide +kernel)
theorem dX35_layBox_184 : decode cX35_layBox 184 = .ok (.i2l, 1) := dc_133 (by decide +kernel)
theorem dX35_layBox_185 : decode cX35_layBox 185 = .ok (.aload_n 0, 1) := dc_42 (by decide +kernel)
theorem dX35_layBox_186 : decode cX35_layBox 186 = .ok (.getfield 185, 3) := dc_180 (a := 0) (b := 185) (n := 185) (by decide +kernel)
theorem dX35_layBox_189 : decode cX35_layBox 189 = .ok (.iload 8, 2) := dc_21 (a := 8) (by decide +kernel)
theorem dX35_layBox_191 : decode cX35_layBox 191 = .ok (.iconst 4, 1) := dc_7 (by decide +kernel)
theorem dX35_layBox_192 : decode cX35_layBox 192 = .ok (.iadd, 1) := dc_96 (by decide +kernel)
theorem dX35_layBox_193 : decode cX35_layBox 193 = .ok (.iaload, 1) := dc_46 (by decide +kernel)
theorem dX35_layBox_194 : decode cX35_layBox 194 = .ok (.i2l, 1) := dc_133 (by decide +kernel)
theorem dX35_layBox_195 : decode cX35_layBox 195 = .ok (.aload_n 0, 1) := dc_42 (by decide +kernel)
theorem dX35_layBox_196 : decode cX35_layBox 196 = .ok (.getfield 185, 3) := dc_180 (a := 0) (b := 185) (n := 185) (by decide +kernel)
theorem dX35_layBox_199 : decode cX35_layBox 199 = .ok (.iload 8, 2) := dc_21 (a := 8) (by decide +kernel)
theorem dX35_layBox_201 : decode cX35_layBox 201 = .ok (.iconst 5, 1) := dc_8 (by decide +kernel)
theorem dX35_layBox_202 : decode cX35_layBox 202 = .ok (.iadd, 1) := dc_96 (by decide +kernel)
theorem dX35_layBox_203 : decode cX35_layBox 203 = .ok (.iaload, 1) := dc_46 (by decide +kernel)
theorem dX35_layBox_204 : decode cX35_layBox 204 = .ok (.i2l, 1) := dc_133 (by decide +kernel)
theorem dX35_layBox_205 : decode cX35_layBox 205 = .ok (.invokevirtual 1013, 3) := dc_182 (a := 3) (b := 245) (n := 1013) (by decide +kernel)
theorem dX35_layBox_208 : decode cX35_layBox 208 = .ok (.istore 6, 2) := dc_54 (a := 6) (by decide +kernel)
theorem dX35_layBox_210 : decode cX35_layBox 210 = .ok (.goto 191, 3) := dc_167 (a := 0) (b := 191) (v := 191) (by decide +kernel)
theorem dX35_layBox_213 : decode cX35_layBox 213 = .ok (.aload_n 0, 1) := dc_42 (by decide +kernel)
theorem dX35_layBox_214 : decode cX35_layBox 214 = .ok (.getfield 185, 3) := dc_180 (a := 0) (b := 185) (n := 185) (by decide +kernel)
theorem dX35_layBox_217 : decode cX35_layBox 217 = .ok (.iload 8, 2) := dc_21 (a := 8) (by decide +kernel)
theorem dX35_layBox_219 : decode cX35_layBox 219 = .ok (.iaload, 1) := dc_46 (by decide +kernel)
theorem dX35_layBox_220 : decode cX35_layBox 220 = .ok (.iconst 1, 1) := dc_4 (by decide +kernel)
theorem dX35_layBox_221 : decode cX35_layBox 221 = .ok (.if_icmp .ne 96, 3) := dc_160 (a := 0) (b := 96) (v := 96) (by decide +kernel)
theorem dX35_layBox_224 : decode cX35_layBox 224 = .ok (.aload_n 0, 1) := dc_42 (by decide +kernel)
theorem dX35_layBox_225 : decode cX35_layBox 225 = .ok (.iload_n 1, 1) := dc_27 (by decide +kernel)
theorem dX35_layBox_226 : decode cX35_layBox 226 = .ok (.iload 8, 2) := dc_21 (a := 8) (by decide +kernel)
theorem dX35_layBox_228 : decode cX35_layBox 228 = .ok (.iconst 0, 1) := dc_3 (by decide +kernel)
theorem dX35_layBox_229 : decode cX35_layBox 229 = .ok (.invokevirtual 1017, 3) := dc_182 (a := 3) (b := 249) (n := 1017) (by decide +kernel)
theorem dX35_layBox_232 : decode cX35_layBox 232 = .ok (.lstore 15, 2) := dc_55 (a := 15) (by decide +kernel)
theorem dX35_layBox_234 : decode cX35_layBox 234 = .ok (.aload_n 0, 1) := dc_42 (by decide +kernel)
theorem dX35_layBox_235 : decode cX35_layBox 235 = .ok (.iload_n 1, 1) := dc_27 (by decide +kernel)
theorem dX35_layBox_236 : decode cX35_layBox 236 = .ok (.iload 8, 2) := dc_21 (a := 8) (by decide +kernel)
theorem dX35_layBox_238 : decode cX35_layBox 238 = .ok (.iconst 1, 1) := dc_4 (by decide +kernel)
theorem dX35_layBox_239 : decode cX35_layBox 239 = .ok (.invokevirtual 1017, 3) := dc_182 (a := 3) (b := 249) (n := 1017) (by decide +kernel)
theorem dX35_layBox_242 : decode cX35_layBox 242 = .ok (.lstore 17, 2) := dc_55 (a := 17) (by decide +kernel)
theorem dX35_layBox_244 : decode cX35_layBox 244 = .ok (.aload_n 0, 1) := dc_42 (by decide +kernel)
theorem dX35_layBox_245 : decode cX35_layBox 245 = .ok (.iload_n 1, 1) := dc_27 (by decide +kernel)
theorem dX35_layBox_246 : decode cX35_layBox 246 = .ok (.iload 8, 2) := dc_21 (a := 8) (by decide +kernel)
theorem dX35_layBox_248 : decode cX35_layBox 248 = .ok (.iconst 2, 1) := dc_5 (by decide +kernel)
theorem dX35_layBox_249 : decode cX35_layBox 249 = .ok (.invokevirtual 1017, 3) := dc_182 (a := 3) (b := 249) (n := 1017) (by decide +kernel)
theorem dX35_layBox_252 : decode cX35_layBox 252 = .ok (.lstore 19, 2) := dc_55 (a := 19) (by decide +kernel)
theorem dX35_layBox_254 : decode cX35_layBox 254 = .ok (.lload 15, 2) := dc_22 (a := 15) (by decide +kernel)
theorem dX35_layBox_256 : decode cX35_layBox 256 = .ok (.lconst 0, 1) := dc_9 (by decide +kernel)
theorem dX35_layBox_257 : decode cX35_layBox 257 = .ok (.lcmp, 1) := dc_148 (by decide +kernel)
theorem dX35_layBox_258 : decode cX35_layBox 258 = .ok (.ifCond .le 49, 3) := dc_158 (a := 0) (b := 49) (v := 49) (by decide +kernel)
theorem dX35_layBox_261 : decode cX35_layBox 261 = .ok (.lload 17, 2) := dc_22 (a := 17) (by decide +kernel)
theorem dX35_layBox_263 : decode cX35_layBox 263 = .ok (.lload 19, 2) := dc_22 (a := 19) (by decide +kernel)
theorem dX35_layBox_265 : decode cX35_layBox 265 = .ok (.ladd, 1) := dc_97 (by decide +kernel)
theorem dX35_layBox_266 : decode cX35_layBox 266 = .ok (.lconst 0, 1) := dc_9 (by decide +kernel)
theorem dX35_layBox_267 : decode cX35_layBox 267 = .ok (.lcmp, 1) := dc_148 (by decide +kernel)
theorem dX35_layBox_268 : decode cX35_layBox 268 = .ok (.ifCond .le 39, 3) := dc_158 (a := 0) (b := 39) (v := 39) (by decide +kernel)
theorem dX35_layBox_271 : decode cX35_layBox 271 = .ok (.aload_n 0, 1) := dc_42 (by decide +kernel)
theorem dX35_layBox_272 : decode cX35_layBox 272 = .ok (.iconst (-1), 1) := dc_2 (by decide +kernel)
theorem dX35_layBox_273 : decode cX35_layBox 273 = .ok (.iconst 0, 1) := dc_3 (by decide +kernel)
theorem dX35_layBox_274 : decode cX35_layBox 274 = .ok (.lload 11, 2) := dc_22 (a := 11) (by decide +kernel)
theorem dX35_layBox_276 : decode cX35_layBox 276 = .ok (.aload_n 0, 1) := dc_42 (by decide +kernel)
theorem dX35_layBox_277 : decode cX35_layBox 277 = .ok (.getfield 154, 3) := dc_180 (a := 0) (b := 154) (n := 154) (by decide +kernel)
theorem dX35_layBox_280 : decode cX35_layBox 280 = .ok (.iload_n 1, 1) := dc_27 (by decide +kernel)
theorem dX35_layBox_281 : decode cX35_layBox 281 = .ok (.baload, 1) := dc_51 (by decide +kernel)
theorem dX35_layBox_282 : decode cX35_layBox 282 = .ok (.ifCond .eq 11, 3) := dc_153 (a := 0) (b := 11) (v := 11) (by decide +kernel)
theorem dX35_layBox_285 : decode cX35_layBox 285 = .ok (.lload 13, 2) := dc_22 (a := 13) (by decide +kernel)
theorem dX35_layBox_287 : decode cX35_layBox 287 = .ok (.lload 17, 2) := dc_22 (a := 17) (by decide +kernel)
theorem dX35_layBox_289 : decode cX35_layBox 289 = .ok (.ladd, 1) := dc_97 (by decide +kernel)
theorem dX35_layBox_290 : decode cX35_layBox 290 = .ok (.goto 5, 3) := dc_167 (a := 0) (b := 5) (v := 5) (by decide +kernel)
theorem dX35_layBox_293 : decode cX35_layBox 293 = .ok (.lload 13, 2) := dc_22 (a := 13) (by decide +kernel)
theorem dX35_layBox_295 : decode cX35_layBox 295 = .ok (.lload 15, 2) := dc_22 (a := 15) (by decide +kernel)
theorem dX35_layBox_297 : decode cX35_layBox 297 = .ok (.lload 17, 2) := dc_22 (a := 17) (by decide +kernel)
theorem dX35_layBox_299 : decode cX35_layBox 299 = .ok (.lload 19, 2) := dc_22 (a := 19) (by decide +kernel)
theorem dX35_layBox_301 : decode cX35_layBox 301 = .ok (.invokevirtual 1013, 3) := dc_182 (a := 3) (b := 245) (n := 1013) (by decide +kernel)
theorem dX35_layBox_304 : decode cX35_layBox 304 = .ok (.ifCond .eq 7, 3) := dc_153 (a := 0) (b := 7) (v := 7) (by decide +kernel)
theorem dX35_layBox_307 : decode cX35_layBox 307 = .ok (.iconst 1, 1) := dc_4 (by decide +kernel)
theorem dX35_layBox_308 : decode cX35_layBox 308 = .ok (.goto 4, 3) := dc_167 (a := 0) (b := 4) (v := 4) (by decide +kernel)
theorem dX35_layBox_311 : decode cX35_layBox 311 = .ok (.iconst 0, 1) := dc_3 (by decide +kernel)
theorem dX35_layBox_312 : decode cX35_layBox 312 = .ok (.istore 6, 2) := dc_54 (a := 6) (by decide +kernel)
theorem dX35_layBox_314 : decode cX35_layBox 314 = .ok (.goto 87, 3) := dc_167 (a := 0) (b := 87) (v := 87) (by decide +kernel)
theorem dX35_layBox_317 : decode cX35_layBox 317 = .ok (.aload_n 0, 1) := dc_42 (by decide +kernel)
theorem dX35_layBox_318 : decode cX35_layBox 318 = .ok (.getfield 185, 3) := dc_180 (a := 0) (b := 185) (n := 185) (by decide +kernel)
theorem dX35_layBox_321 : decode cX35_layBox 321 = .ok (.iload 8, 2) := dc_21 (a := 8) (by decide +kernel)
theorem dX35_layBox_323 : decode cX35_layBox 323 = .ok (.iaload, 1) := dc_46 (by decide +kernel)
theorem dX35_layBox_324 : decode cX35_layBox 324 = .ok (.iconst 5, 1) := dc_8 (by decide +kernel)
theorem dX35_layBox_325 : decode cX35_layBox 325 = .ok (.if_icmp .ne 76, 3) := dc_160 (a := 0) (b := 76) (v := 76) (by decide +kernel)
theorem dX35_layBox_328 : decode cX35_layBox 328 = .ok (.aload_n 0, 1) := dc_42 (by decide +kernel)
theorem dX35_layBox_329 : decode cX35_layBox 329 = .ok (.getfield 185, 3) := dc_180 (a := 0) (b := 185) (n := 185) (by decide +kernel)
theorem dX35_layBox_332 : decode cX35_layBox 332 = .ok (.iload 8, 2) := dc_21 (a := 8) (by decide +kernel)
theorem dX35_layBox_334 : decode cX35_layBox 334 = .ok (.iconst 1, 1) := dc_4 (by decide +kernel)
theorem dX35_layBox_335 : decode cX35_layBox 335 = .ok (.iadd, 1) := dc_96 (by decide +kernel)
theorem dX35_layBox_336 : decode cX35_layBox 336 = .ok (.iaload, 1) := dc_46 (by decide +kernel)
theorem dX35_layBox_337 : decode cX35_layBox 337 = .ok (.istore 15, 2) := dc_54 (a := 15) (by decide +kernel)
theorem dX35_layBox_339 : decode cX35_layBox 339 = .ok (.aload_n 0, 1) := dc_42 (by decide +kernel)
theorem dX35_layBox_340 : decode cX35_layBox 340 = .ok (.getfield 185, 3) := dc_180 (a := 0) (b := 185) (n := 185) (by decide +kernel)
theorem dX35_layBox_343 : decode cX35_layBox 343 = .ok (.iload 8, 2) := dc_21 (a := 8) (by decide +kernel)
theorem dX35_layBox_345 : decode cX35_layBox 345 = .ok (.iconst 2, 1) := dc_5 (by decide +kernel)
theorem dX35_layBox_346 : decode cX35_layBox 346 = .ok (.iadd, 1) := dc_96 (by decide +kernel)
theorem dX35_layBox_347 : decode cX35_layBox 347 = .ok (.iaload, 1) := dc_46 (by decide +kernel)
theorem dX35_layBox_348 : decode cX35_layBox 348 = .ok (.istore 16, 2) := dc_54 (a := 16) (by decide +kernel)
theorem dX35_layBox_350 : decode cX35_layBox 350 = .ok (.aload_n 0, 1) := dc_42 (by decide +kernel)
theorem dX35_layBox_351 : decode cX35_layBox 351 = .ok (.getfield 154, 3) := dc_180 (a := 0) (b := 154) (n := 154) (by decide +kernel)
theorem dX35_layBox_354 : decode cX35_layBox 354 = .ok (.iload_n 1, 1) := dc_27 (by decide +kernel)
theorem dX35_layBox_355 : decode cX35_layBox 355 = .ok (.baload, 1) := dc_51 (by decide +kernel)
theorem dX35_layBox_356 : decode cX35_layBox 356 = .ok (.ifCond .eq 29, 3) := dc_153 (a := 0) (b := 29) (v := 29) (by decide +kernel)
theorem dX35_layBox_359 : decode cX35_layBox 359 = .ok (.aload_n 0, 1) := dc_42 (by decide +kernel)
theorem dX35_layBox_360 : decode cX35_layBox 360 = .ok (.iload 15, 2) := dc_21 (a := 15) (by decide +kernel)
theorem dX35_layBox_362 : decode cX35_layBox 362 = .ok (.lload 11, 2) := dc_22 (a := 11) (by decide +kernel)
theorem dX35_layBox_364 : decode cX35_layBox 364 = .ok (.iload 16, 2) := dc_21 (a := 16) (by decide +kernel)
theorem dX35_layBox_366 : decode cX35_layBox 366 = .ok (.i2l, 1) := dc_133 (by decide +kernel)
theorem dX35_layBox_367 : decode cX35_layBox 367 = .ok (.ladd, 1) := dc_97 (by decide +kernel)
theorem dX35_layBox_368 : decode cX35_layBox 368 = .ok (.lload 13, 2) := dc_22 (a := 13) (by decide +kernel)
theorem dX35_layBox_370 : decode cX35_layBox 370 = .ok (.aload_n 0, 1) := dc_42 (by decide +kernel)
theorem dX35_layBox_371 : decode cX35_layBox 371 = .ok (.getfield 160, 3) := dc_180 (a := 0) (b := 160) (n := 160) (by decide +kernel)
theorem dX35_layBox_374 : decode cX35_layBox 374 = .ok (.iload 15, 2) := dc_21 (a := 15) (by decide +kernel)
theorem dX35_layBox_376 : decode cX35_layBox 376 = .ok (.iaload, 1) := dc_46 (by decide +kernel)
theorem dX35_layBox_377 : decode cX35_layBox 377 = .ok (.i2l, 1) := dc_133 (by decide +kernel)
theorem dX35_layBox_378 : decode cX35_layBox 378 = .ok (.ladd, 1) := dc_97 (by decide +kernel)
theorem dX35_layBox_379 : decode cX35_layBox 379 = .ok (.invokevirtual 1021, 3) := dc_182 (a := 3) (b := 253) (n := 1021) (by decide +kernel)
theorem dX35_layBox_382 : decode cX35_layBox 382 = .ok (.goto 17, 3) := dc_167 (a := 0) (b := 17) (v := 17) (by decide +kernel)
theorem dX35_layBox_385 : decode cX35_layBox 385 = .ok (.aload_n 0, 1) := dc_42 (by decide +kernel)
theorem dX35_layBox_386 : decode cX35_layBox 386 = .ok (.iload 15, 2) := dc_21 (a := 15) (by decide +kernel)
theorem dX35_layBox_388 : decode cX35_layBox 388 = .ok (.lload 11, 2) := dc_22 (a := 11) (by decide +kernel)
theorem dX35_layBox_390 : decode cX35_layBox 390 = .ok (.lload 13, 2) := dc_22 (a := 13) (by decide +kernel)
theorem dX35_layBox_392 : decode cX35_layBox 392 = .ok (.iload 16, 2) := dc_21 (a := 16) (by decide +kernel)
theorem dX35_layBox_394 : decode cX35_layBox 394 = .ok (.i2l, 1) := dc_133 (by decide +kernel)
theorem dX35_layBox_395 : decode cX35_layBox 395 = .ok (.ladd, 1) := dc_97 (by decide +kernel)
theorem dX35_layBox_396 : decode cX35_layBox 396 = .ok (.invokevirtual 1021, 3) := dc_182 (a := 3) (b := 253) (n := 1021) (by decide +kernel)
theorem dX35_layBox_399 : decode cX35_layBox 399 = .ok (.istore 6, 2) := dc_54 (a := 6) (by decide +kernel)
theorem dX35_layBox_401 : decode cX35_layBox 401 = .ok (.iinc 7 1, 3) := dc_132 (a := 7) (b := 1) (v := 1) (by decide +kernel)
theorem dX35_layBox_404 : decode cX35_layBox 404 = .ok (.goto (-393), 3) := dc_167 (a := 254) (b := 119) (v := -393) (by decide +kernel)
theorem dX35_layBox_407 : decode cX35_layBox 407 = .ok (.iload 6, 2) := dc_21 (a := 6) (by decide +kernel)
theorem dX35_layBox_409 : decode cX35_layBox 409 = .ok (.ireturn, 1) := dc_172 (by decide +kernel)
abbrev cX35_layPage : ByteArray := prog_37_method_160_code
def yX35_layPage : MethodName := ⟨RX35, "layPage", "()Z"⟩
def YX35_layPage : eY := (yX35_layPage, cX35_layPage, 5, (Option.some FieldType.boolean), [])
theorem mX35_layPage : e_mv YX35_layPage RX35 0 := ⟨q5521, qs324, q5522, by decide, by decide +kernel, (e_sig (by decide +kernel))⟩
theorem dX35_layPage_0 : decode cX35_layPage 0 = .ok (.iconst 1, 1) := dc_4 (by decide +kernel)
theorem dX35_layPage_1 : decode cX35_layPage 1 = .ok (.istore_n 1, 1) := dc_60 (by decide +kernel)
theorem dX35_layPage_2 : decode cX35_layPage 2 = .ok (.aload_n 0, 1) := dc_42 (by decide +kernel)
theorem dX35_layPage_3 : decode cX35_layPage 3 = .ok (.getfield 382, 3) := dc_180 (a := 1) (b := 126) (n := 382) (by decide +kernel)
theorem dX35_layPage_6 : decode cX35_layPage 6 = .ok (.istore_n 2, 1) := dc_61 (by decide +kernel)
theorem dX35_layPage_7 : decode cX35_layPage 7 = .ok (.iload_n 2, 1) := dc_28 (by decide +kernel)
theorem dX35_layPage_8 : decode cX35_layPage 8 = .ok (.aload_n 0, 1) := dc_42 (by decide +kernel)
theorem dX35_layPage_9 : decode cX35_layPage 9 = .ok (.getfield 385, 3) := dc_180 (a := 1) (b := 129) (n := 385) (by decide +kernel)
theorem dX35_layPage_12 : decode cX35_layPage 12 = .ok (.if_icmp .ge 157, 3) := dc_162 (a := 0) (b := 157) (v := 157) (by decide +kernel)
theorem dX35_layPage_15 : decode cX35_layPage 15 = .ok (.iload_n 1, 1) := dc_27 (by decide +kernel)
theorem dX35_layPage_16 : decode cX35_layPage 16 = .ok (.ifCond .eq 153, 3) := dc_153 (a := 0) (b := 153) (v := 153) (by decide +kernel)
theorem dX35_layPage_19 : decode cX35_layPage 19 = .ok (.aload_n 0, 1) := dc_42 (by decide +kernel)
theorem dX35_layPage_20 : decode cX35_layPage 20 = .ok (.getfield 195, 3) := dc_180 (a := 0) (b := 195) (n := 195) (by decide +kernel)
theorem dX35_layPage_23 : decode cX35_layPage 23 = .ok (.iload_n 2, 1) := dc_28 (by decide +kernel)
theorem dX35_layPage_24 : decode cX35_layPage 24 = .ok (.iaload, 1) := dc_46 (by decide +kernel)
theorem dX35_layPage_25 : decode cX35_layPage 25 = .ok (.iconst 5, 1) := dc_8 (by decide +kernel)
theorem dX35_layPage_26 : decode cX35_layPage 26 = .ok (.if_icmp .ne 38, 3) := dc_160 (a := 0) (b := 38) (v := 38) (by decide +kernel)
theorem dX35_layPage_29 : decode cX35_layPage 29 = .ok (.aload_n 0, 1) := dc_42 (by decide +kernel)
theorem dX35_layPage_30 : decode cX35_layPage 30 = .ok (.getfield 210, 3) := dc_180 (a := 0) (b := 210) (n := 210) (by decide +kernel)
theorem dX35_layPage_33 : decode cX35_layPage 33 = .ok (.iload_n 2, 1) := dc_28 (by decide +kernel)
theorem dX35_layPage_34 : decode cX35_layPage 34 = .ok (.iaload, 1) := dc_46 (by decide +kernel)
theorem dX35_layPage_35 : decode cX35_layPage 35 = .ok (.ifCond .lt 29, 3) := dc_155 (a := 0) (b := 29) (v := 29) (by decide +kernel)
theorem dX35_layPage_38 : decode cX35_layPage 38 = .ok (.aload_n 0, 1) := dc_42 (by decide +kernel)
theorem dX35_layPage_39 : decode cX35_layPage 39 = .ok (.aload_n 0, 1) := dc_42 (by decide +kernel)
theorem dX35_layPage_40 : decode cX35_layPage 40 = .ok (.getfield 210, 3) := dc_180 (a := 0) (b := 210) (n := 210) (by decide +kernel)
theorem dX35_layPage_43 : decode cX35_layPage 43 = .ok (.iload_n 2, 1) := dc_28 (by decide +kernel)
theorem dX35_layPage_44 : decode cX35_layPage 44 = .ok (.iaload, 1) := dc_46 (by decide +kernel)
theorem dX35_layPage_45 : decode cX35_layPage 45 = .ok (.aload_n 0, 1) := dc_42 (by decide +kernel)
theorem dX35_layPage_46 : decode cX35_layPage 46 = .ok (.getfield 213, 3) := dc_180 (a := 0) (b := 213) (n := 213) (by decide +kernel)
theorem dX35_layPage_49 : decode cX35_layPage 49 = .ok (.iload_n 2, 1) := dc_28 (by decide +kernel)
theorem dX35_layPage_50 : decode cX35_layPage 50 = .ok (.iaload, 1) := dc_46 (by decide +kernel)
theorem dX35_layPage_51 : decode cX35_layPage 51 = .ok (.i2l, 1) := dc_133 (by decide +kernel)
theorem dX35_layPage_52 : decode cX35_layPage 52 = .ok (.aload_n 0, 1) := dc_42 (by decide +kernel)
theorem dX35_layPage_53 : decode cX35_layPage 53 = .ok (.iload_n 2, 1) := dc_28 (by decide +kernel)
theorem dX35_layPage_54 : decode cX35_layPage 54 = .ok (.invokevirtual 1086, 3) := dc_182 (a := 4) (b := 62) (n := 1086) (by decide +kernel)
theorem dX35_layPage_57 : decode cX35_layPage 57 = .ok (.invokevirtual 1021, 3) := dc_182 (a := 3) (b := 253) (n := 1021) (by decide +kernel)
theorem dX35_layPage_60 : decode cX35_layPage 60 = .ok (.istore_n 1, 1) := dc_60 (by decide +kernel)
theorem dX35_layPage_61 : decode cX35_layPage 61 = .ok (.goto 102, 3) := dc_167 (a := 0) (b := 102) (v := 102) (by decide +kernel)
theorem dX35_layPage_64 : decode cX35_layPage 64 = .ok (.aload_n 0, 1) := dc_42 (by decide +kernel)
theorem dX35_layPage_65 : decode cX35_layPage 65 = .ok (.getfield 195, 3) := dc_180 (a := 0) (b := 195) (n := 195) (by decide +kernel)
theorem dX35_layPage_68 : decode cX35_layPage 68 = .ok (.iload_n 2, 1) := dc_28 (by decide +kernel)
theorem dX35_layPage_69 : decode cX35_layPage 69 = .ok (.iaload, 1) := dc_46 (by decide +kernel)
theorem dX35_layPage_70 : decode cX35_layPage 70 = .ok (.iconst 5, 1) := dc_8 (by decide +kernel)
theorem dX35_layPage_71 : decode cX35_layPage 71 = .ok (.if_icmp .ne 92, 3) := dc_160 (a := 0) (b := 92) (v := 92) (by decide +kernel)
theorem dX35_layPage_74 : decode cX35_layPage 74 = .ok (.aload_n 0, 1) := dc_42 (by decide +kernel)
theorem dX35_layPage_75 : decode cX35_layPage 75 = .ok (.getfield 213, 3) := dc_180 (a := 0) (b := 213) (n := 213) (by decide +kernel)
theorem dX35_layPage_78 : decode cX35_layPage 78 = .ok (.iload_n 2, 1) := dc_28 (by decide +kernel)
theorem dX35_layPage_79 : decode cX35_layPage 79 = .ok (.iaload, 1) := dc_46 (by decide +kernel)
theorem dX35_layPage_80 : decode cX35_layPage 80 = .ok (.ldc_w 816, 3) := dc_19 (a := 3) (b := 48) (n := 816) (by decide +kernel)
theorem dX35_layPage_83 : decode cX35_layPage 83 = .ok (.if_icmp .ne 10, 3) := dc_160 (a := 0) (b := 10) (v := 10) (by decide +kernel)
theorem dX35_layPage_86 : decode cX35_layPage 86 = .ok (.aload_n 0, 1) := dc_42 (by decide +kernel)
theorem dX35_layPage_87 : decode cX35_layPage 87 = .ok (.invokevirtual 1090, 3) := dc_182 (a := 4) (b := 66) (n := 1090) (by decide +kernel)
theorem dX35_layPage_90 : decode cX35_layPage 90 = .ok (.goto 10, 3) := dc_167 (a := 0) (b := 10) (v := 10) (by decide +kernel)
theorem dX35_layPage_93 : decode cX35_layPage 93 = .ok (.aload_n 0, 1) := dc_42 (by decide +kernel)
theorem dX35_layPage_94 : decode cX35_layPage 94 = .ok (.getfield 213, 3) := dc_180 (a := 0) (b := 213) (n := 213) (by decide +kernel)
theorem dX35_layPage_97 : decode cX35_layPage 97 = .ok (.iload_n 2, 1) := dc_28 (by decide +kernel)
theorem dX35_layPage_98 : decode cX35_layPage 98 = .ok (.iaload, 1) := dc_46 (by decide +kernel)
theorem dX35_layPage_99 : decode cX35_layPage 99 = .ok (.i2l, 1) := dc_133 (by decide +kernel)
theorem dX35_layPage_100 : decode cX35_layPage 100 = .ok (.lstore_n 3, 1) := dc_66 (by decide +kernel)
theorem dX35_layPage_101 : decode cX35_layPage 101 = .ok (.lload_n 3, 1) := dc_33 (by decide +kernel)
theorem dX35_layPage_102 : decode cX35_layPage 102 = .ok (.lconst 0, 1) := dc_9 (by decide +kernel)
theorem dX35_layPage_103 : decode cX35_layPage 103 = .ok (.lcmp, 1) := dc_148 (by decide +kernel)
theorem dX35_layPage_104 : decode cX35_layPage 104 = .ok (.ifCond .le 53, 3) := dc_158 (a := 0) (b := 53) (v := 53) (by decide +kernel)
theorem dX35_layPage_107 : decode cX35_layPage 107 = .ok (.aload_n 0, 1) := dc_42 (by decide +kernel)
theorem dX35_layPage_108 : decode cX35_layPage 108 = .ok (.getfield 201, 3) := dc_180 (a := 0) (b := 201) (n := 201) (by decide +kernel)
theorem dX35_layPage_111 : decode cX35_layPage 111 = .ok (.iload_n 2, 1) := dc_28 (by decide +kernel)
theorem dX35_layPage_112 : decode cX35_layPage 112 = .ok (.iaload, 1) := dc_46 (by decide +kernel)
theorem dX35_layPage_113 : decode cX35_layPage 113 = .ok (.i2l, 1) := dc_133 (by decide +kernel)
theorem dX35_layPage_114 : decode cX35_layPage 114 = .ok (.aload_n 0, 1) := dc_42 (by decide +kernel)
theorem dX35_layPage_115 : decode cX35_layPage 115 = .ok (.getfield 204, 3) := dc_180 (a := 0) (b := 204) (n := 204) (by decide +kernel)
theorem dX35_layPage_118 : decode cX35_layPage 118 = .ok (.iload_n 2, 1) := dc_28 (by decide +kernel)
theorem dX35_layPage_119 : decode cX35_layPage 119 = .ok (.iaload, 1) := dc_46 (by decide +kernel)
theorem dX35_layPage_120 : decode cX35_layPage 120 = .ok (.i2l, 1) := dc_133 (by decide +kernel)
theorem dX35_layPage_121 : decode cX35_layPage 121 = .ok (.ladd, 1) := dc_97 (by decide +kernel)
theorem dX35_layPage_122 : decode cX35_layPage 122 = .ok (.lconst 0, 1) := dc_9 (by decide +kernel)
theorem dX35_layPage_123 : decode cX35_layPage 123 = .ok (.lcmp, 1) := dc_148 (by decide +kernel)
theorem dX35_layPage_124 : decode cX35_layPage 124 = .ok (.ifCond .le 33, 3) := dc_158 (a := 0) (b := 33) (v := 33) (by decide +kernel)
theorem dX35_layPage_127 : decode cX35_layPage 127 = .ok (.aload_n 0, 1) := dc_42 (by decide +kernel)
theorem dX35_layPage_128 : decode cX35_layPage 128 = .ok (.iconst (-1), 1) := dc_2 (by decide +kernel)
theorem dX35_layPage_129 : decode cX35_layPage 129 = .ok (.iconst 0, 1) := dc_3 (by decide +kernel)
theorem dX35_layPage_130 : decode cX35_layPage 130 = .ok (.lconst 0, 1) := dc_9 (by decide +kernel)
theorem dX35_layPage_131 : decode cX35_layPage 131 = .ok (.aload_n 0, 1) := dc_42 (by decide +kernel)
theorem dX35_layPage_132 : decode cX35_layPage 132 = .ok (.iload_n 2, 1) := dc_28 (by decide +kernel)
theorem dX35_layPage_133 : decode cX35_layPage 133 = .ok (.invokevirtual 1086, 3) := dc_182 (a := 4) (b := 62) (n := 1086) (by decide +kernel)
theorem dX35_layPage_136 : decode cX35_layPage 136 = .ok (.lload_n 3, 1) := dc_33 (by decide +kernel)
theorem dX35_layPage_137 : decode cX35_layPage 137 = .ok (.aload_n 0, 1) := dc_42 (by decide +kernel)
theorem dX35_layPage_138 : decode cX35_layPage 138 = .ok (.getfield 201, 3) := dc_180 (a := 0) (b := 201) (n := 201) (by decide +kernel)
theorem dX35_layPage_141 : decode cX35_layPage 141 = .ok (.iload_n 2, 1) := dc_28 (by decide +kernel)
theorem dX35_layPage_142 : decode cX35_layPage 142 = .ok (.iaload, 1) := dc_46 (by decide +kernel)
theorem dX35_layPage_143 : decode cX35_layPage 143 = .ok (.i2l, 1) := dc_133 (by decide +kernel)
theorem dX35_layPage_144 : decode cX35_layPage 144 = .ok (.aload_n 0, 1) := dc_42 (by decide +kernel)
theorem dX35_layPage_145 : decode cX35_layPage 145 = .ok (.getfield 204, 3) := dc_180 (a := 0) (b := 204) (n := 204) (by decide +kernel)
theorem dX35_layPage_148 : decode cX35_layPage 148 = .ok (.iload_n 2, 1) := dc_28 (by decide +kernel)
theorem dX35_layPage_149 : decode cX35_layPage 149 = .ok (.iaload, 1) := dc_46 (by decide +kernel)
theorem dX35_layPage_150 : decode cX35_layPage 150 = .ok (.i2l, 1) := dc_133 (by decide +kernel)
theorem dX35_layPage_151 : decode cX35_layPage 151 = .ok (.invokevirtual 1013, 3) := dc_182 (a := 3) (b := 245) (n := 1013) (by decide +kernel)
theorem dX35_layPage_154 : decode cX35_layPage 154 = .ok (.ifCond .eq 7, 3) := dc_153 (a := 0) (b := 7) (v := 7) (by decide +kernel)
theorem dX35_layPage_157 : decode cX35_layPage 157 = .ok (.iconst 1, 1) := dc_4 (by decide +kernel)
theorem dX35_layPage_158 : decode cX35_layPage 158 = .ok (.goto 4, 3) := dc_167 (a := 0) (b := 4) (v := 4) (by decide +kernel)
theorem dX35_layPage_161 : decode cX35_layPage 161 = .ok (.iconst 0, 1) := dc_3 (by decide +kernel)
theorem dX35_layPage_162 : decode cX35_layPage 162 = .ok (.istore_n 1, 1) := dc_60 (by decide +kernel)
theorem dX35_layPage_163 : decode cX35_layPage 163 = .ok (.iinc 2 1, 3) := dc_132 (a := 2) (b := 1) (v := 1) (by decide +kernel)
theorem dX35_layPage_166 : decode cX35_layPage 166 = .ok (.goto (-159), 3) := dc_167 (a := 255) (b := 97) (v := -159) (by decide +kernel)
theorem dX35_layPage_169 : decode cX35_layPage 169 = .ok (.iload_n 1, 1) := dc_27 (by decide +kernel)
theorem dX35_layPage_170 : decode cX35_layPage 170 = .ok (.ireturn, 1) := dc_172 (by decide +kernel)
def fX35_layPage_b163 (N : Nat) (sL : Nat → Int32 → Int64 → Int64 → eH → Option (Int32 × eH)) (k7 : Nat → Int32 → Int32 → eH → Option (Int32 × eH)) (l0 : Nat) (l1 : Int32) (l2 : Int32) (h : eH) : Option (Int32 × eH) :=
  k7 l0 l1 (l2 + (1 : Int32)) h
theorem pX35_layPage_b163 {w : eW} {d : Nat} {dr : Nat} (hd : dr + 3 ≤ d + 1) (hdr : 12 ≤ dr) {N : Nat} {sL : Nat → Int32 → Int64 → Int64 → eH → Option (Int32 × eH)} (hsL : ∀ a t0 t1 t2 h q, sL a t0 t1 t2 h = some q → wm w dr YX35_layBox [.ref a, .int t0, .long t1, .long t2] h (e_is (e_rn c_I q))) {k7 : Nat → Int32 → Int32 → eH → Option (Int32 × eH)} (hk7 : ∀ l0 l1 l2 h q, k7 l0 l1 l2 h = some q → wp w (d + 1) YX35_layPage 7 [some (.ref l0), some (.int l1), some (.int l2), none, none] [] h (e_is (e_rn c_I q))) {l0 : Nat} {l1 : Int32} {l2 : Int32} {h : eH} {q} (hf : fX35_layPage_b163 N sL k7 l0 l1 l2 h = some q) : wp w (d + 1) YX35_layPage 163 [some (.ref l0), some (.int l1), some (.int l2), none, none] [] h (e_is (e_rn c_I q)) := by
  unfold fX35_layPage_b163 at hf
  refine w_iinc dX35_layPage_163 (v := (l2 + (1 : Int32))) rfl rfl (by decide) (ls' := [some (.ref l0), some (.int l1), some (.int (l2 + (1 : Int32))), none, none]) rfl ?_
  refine w_goto 7 dX35_layPage_166 (by decide) ?_
  exact (hk7 _ _ _ _ _ hf).to ⟨rfl, rfl, rfl, trivial⟩
def fX35_layPage_b162 (N : Nat) (sL : Nat → Int32 → Int64 → Int64 → eH → Option (Int32 × eH)) (k7 : Nat → Int32 → Int32 → eH → Option (Int32 × eH)) (l0 : Nat) (l2 : Int32) (s0 : Int32) (h : eH) : Option (Int32 × eH) :=
  fX35_layPage_b163 N sL k7 l0 s0 l2 h
theorem pX35_layPage_b162 {w : eW} {d : Nat} {dr : Nat} (hd : dr + 3 ≤ d + 1) (hdr : 12 ≤ dr) {N : Nat} {sL : Nat → Int32 → Int64 → Int64 → eH → Option (Int32 × eH)} (hsL : ∀ a t0 t1 t2 h q, sL a t0 t1 t2 h = some q → wm w dr YX35_layBox [.ref a, .int t0, .long t1, .long t2] h (e_is (e_rn c_I q))) {k7 : Nat → Int32 → Int32 → eH → Option (Int32 × eH)} (hk7 : ∀ l0 l1 l2 h q, k7 l0 l1 l2 h = some q → wp w (d + 1) YX35_layPage 7 [some (.ref l0), some (.int l1), some (.int l2), none, none] [] h (e_is (e_rn c_I q))) {l0 : Nat} {l2 : Int32} {s0 : Int32} {h : eH} {q} (hf : fX35_layPage_b162 N sL k7 l0 l2 s0 h = some q) : wp w (d + 1) YX35_layPage 162 [some (.ref l0), none, some (.int l2), none, none] [.int s0] h (e_is (e_rn c_I q)) := by
  unfold fX35_layPage_b162 at hf
  refine w_istore_n dX35_layPage_162 rfl (by decide) (ls' := [some (.ref l0), some (.int s0), some (.int l2), none, none]) rfl ?_
  exact (pX35_layPage_b163 hd hdr hsL hk7 hf).to ⟨rfl, rfl, rfl, trivial⟩
def fX35_layPage_b157 (N : Nat) (sL : Nat → Int32 → Int64 → Int64 → eH → Option (Int32 × eH)) (k7 : Nat → Int32 → Int32 → eH → Option (Int32 × eH)) (l0 : Nat) (l2 : Int32) (h : eH) : Option (Int32 × eH) :=
  fX35_layPage_b162 N sL k7 l0 l2 (1 : Int32) h
theorem pX35_layPage_b157 {w : eW} {d : Nat} {dr : Nat} (hd : dr + 3 ≤ d + 1) (hdr : 12 ≤ dr) {N : Nat} {sL : Nat → Int32 → Int64 → Int64 → eH → Option (Int32 × eH)} (hsL : ∀ a t0 t1 t2 h q, sL a t0 t1 t2 h = some q → wm w dr YX35_layBox [.ref a, .int t0, .long t1, .long t2] h (e_is (e_rn c_I q))) {k7 : Nat → Int32 → Int32 → eH → Option (Int32 × eH)} (hk7 : ∀ l0 l1 l2 h q, k7 l0 l1 l2 h = some q → wp w (d + 1) YX35_layPage 7 [some (.ref l0), some (.int l1), some (.int l2), none, none] [] h (e_is (e_rn c_I q))) {l0 : Nat} {l2 : Int32} {h : eH} {q} (hf : fX35_layPage_b157 N sL k7 l0 l2 h = some q) : wp w (d + 1) YX35_layPage 157 [some (.ref l0), none, some (.int l2), none, none] [] h (e_is (e_rn c_I q)) := by
  unfold fX35_layPage_b157 at hf
  refine w_iconst dX35_layPage_157 (v := 1) (by decide) ?_
  refine w_goto 162 dX35_layPage_158 (by decide) ?_
  exact (pX35_layPage_b162 hd hdr hsL hk7 hf).to ⟨rfl, rfl, trivial⟩
def fX35_layPage_b100 (N : Nat) (sL : Nat → Int32 → Int64 → Int64 → eH → Option (Int32 × eH)) (k7 : Nat → Int32 → Int32 → eH → Option (Int32 × eH)) (l0 : Nat) (l2 : Int32) (s0 : Int64) (h : eH) : Option (Int32 × eH) :=
  if (lg_cmp s0 (0 : Int64)) ≤ 0 then
    fX35_layPage_b157 N sL k7 l0 l2 h
  else
    (g_A 34 h l0 89).bind fun a2 =>
    (r_I 100 h a2 l2).bind fun x4 =>
    (g_A 34 h l0 90).bind fun a6 =>
    (r_I 100 h a6 l2).bind fun x8 =>
    if (lg_cmp ((x4).toInt64 + (x8).toInt64) (0 : Int64)) ≤ 0 then
      fX35_layPage_b157 N sL k7 l0 l2 h
    else
      (k_ok 34 h l0).bind fun _ =>
      (fX35_stands N l0 l2 h).bind fun q12 =>
      (g_A 34 q12.2 l0 89).bind fun a13 =>
      (r_I 100 q12.2 a13 l2).bind fun x15 =>
      (g_A 34 q12.2 l0 90).bind fun a17 =>
      (r_I 100 q12.2 a17 l2).bind fun x19 =>
      (k_ok 34 q12.2 l0).bind fun _ =>
      (fX35_note l0 (-1 : Int32) (0 : Int32) (0 : Int64) q12.1 s0 (x15).toInt64 (x19).toInt64 q12.2).bind fun q22 =>
      if q22.1 = 0 then
        fX35_layPage_b162 N sL k7 l0 l2 (0 : Int32) q22.2
      else
        fX35_layPage_b157 N sL k7 l0 l2 q22.2
theorem pX35_layPage_b100 {w : eW} {d : Nat} {dr : Nat} (hd : dr + 3 ≤ d + 1) (hdr : 12 ≤ dr) {N : Nat} {sL : Nat → Int32 → Int64 → Int64 → eH → Option (Int32 × eH)} (hsL : ∀ a t0 t1 t2 h q, sL a t0 t1 t2 h = some q → wm w dr YX35_layBox [.ref a, .int t0, .long t1, .long t2] h (e_is (e_rn c_I q))) {k7 : Nat → Int32 → Int32 → eH → Option (Int32 × eH)} (hk7 : ∀ l0 l1 l2 h q, k7 l0 l1 l2 h = some q → wp w (d + 1) YX35_layPage 7 [some (.ref l0), some (.int l1), some (.int l2), none, none] [] h (e_is (e_rn c_I q))) {l0 : Nat} {l2 : Int32} {s0 : Int64} {h : eH} {q} (hf : fX35_layPage_b100 N sL k7 l0 l2 s0 h = some q) : wp w (d + 1) YX35_layPage 100 [some (.ref l0), none, some (.int l2), none, none] [.long s0] h (e_is (e_rn c_I q)) := by
  unfold fX35_layPage_b100 at hf
  refine w_lstore_n dX35_layPage_100 rfl (by decide) (ls' := [some (.ref l0), none, some (.int l2), some (.long s0), none]) rfl ?_
  refine w_lload_n dX35_layPage_101 rfl rfl ?_
  refine w_lconst dX35_layPage_102 (v := 0) (by decide) ?_
  refine w_lcmp dX35_layPage_103 ?_
  refine w_if_le 157 dX35_layPage_104 (by decide) (fun c1 => ?_) (fun c1 => ?_)
  · replace hf := (if_pos (show (lg_cmp s0 (0 : Int64)) ≤ 0 from c1)).symm.trans hf
    exact (pX35_layPage_b157 hd hdr hsL hk7 hf).to ⟨rfl, rfl, trivial⟩
  · replace hf := (if_neg (show ¬ ((lg_cmp s0 (0 : Int64)) ≤ 0) from c1)).symm.trans hf
    refine w_aload_n dX35_layPage_107 rfl rfl ?_
    obtain ⟨a2, b3, hf⟩ := Option.bind_eq_some_iff.mp hf
    refine GX35_201 b3 dX35_layPage_108 rfl ?_
    refine w_iload_n dX35_layPage_111 rfl rfl ?_
    obtain ⟨x4, b5, hf⟩ := Option.bind_eq_some_iff.mp hf
    refine x_rI b5 dX35_layPage_112 ?_
    refine w_i2l dX35_layPage_113 ?_
    refine w_aload_n dX35_layPage_114 rfl rfl ?_
    obtain ⟨a6, b7, hf⟩ := Option.bind_eq_some_iff.mp hf
    refine GX35_204 b7 dX35_layPage_115 rfl ?_
    refine w_iload_n dX35_layPage_118 rfl rfl ?_
    obtain ⟨x8, b9, hf⟩ := Option.bind_eq_some_iff.mp hf
    refine x_rI b9 dX35_layPage_119 ?_
    refine w_i2l dX35_layPage_120 ?_
    refine w_ladd dX35_layPage_121 ?_
    refine w_lconst dX35_layPage_122 (v := 0) (by decide) ?_
    refine w_lcmp dX35_layPage_123 ?_
    refine w_if_le 157 dX35_layPage_124 (by decide) (fun c10 => ?_) (fun c10 => ?_)
    · replace hf := (if_pos (show (lg_cmp ((x4).toInt64 + (x8).toInt64) (0 : Int64)) ≤ 0 from c10)).symm.trans hf
      exact (pX35_layPage_b157 hd hdr hsL hk7 hf).to ⟨rfl, rfl, trivial⟩
    · replace hf := (if_neg (show ¬ ((lg_cmp ((x4).toInt64 + (x8).toInt64) (0 : Int64)) ≤ 0) from c10)).symm.trans hf
      refine w_aload_n dX35_layPage_127 rfl rfl ?_
      refine w_iconst dX35_layPage_128 (v := -1) (by decide) ?_
      refine w_iconst dX35_layPage_129 (v := 0) (by decide) ?_
      refine w_lconst dX35_layPage_130 (v := 0) (by decide) ?_
      refine w_aload_n dX35_layPage_131 rfl rfl ?_
      refine w_iload_n dX35_layPage_132 rfl rfl ?_
      obtain ⟨_, b11, hf⟩ := Option.bind_eq_some_iff.mp hf
      refine x_cnJ hf (e_stV (Yc := YX35_stands) (ci := 34) (av := [.int l2]) (st := [.long (0 : Int64), .int (0 : Int32), .int (-1 : Int32), .ref l0]) dX35_layPage_133 q5523 mX35_stands rfl (k_ok_some b11).1 (k_ok_some b11).2) mX35_stands.2.2.1 mX35_stands.2.2.2.2.1 (Nat.le_of_ble_eq_true rfl) (Nat.le_of_ble_eq_true rfl) (fun q hq => pX35_stands (by omega) hq) (fun q12 hf => ?_)
      refine w_lload_n dX35_layPage_136 rfl rfl ?_
      refine w_aload_n dX35_layPage_137 rfl rfl ?_
      obtain ⟨a13, b14, hf⟩ := Option.bind_eq_some_iff.mp hf
      refine GX35_201 b14 dX35_layPage_138 rfl ?_
      refine w_iload_n dX35_layPage_141 rfl rfl ?_
      obtain ⟨x15, b16, hf⟩ := Option.bind_eq_some_iff.mp hf
      refine x_rI b16 dX35_layPage_142 ?_
      refine w_i2l dX35_layPage_143 ?_
      refine w_aload_n dX35_layPage_144 rfl rfl ?_
      obtain ⟨a17, b18, hf⟩ := Option.bind_eq_some_iff.mp hf
      refine GX35_204 b18 dX35_layPage_145 rfl ?_
      refine w_iload_n dX35_layPage_148 rfl rfl ?_
      obtain ⟨x19, b20, hf⟩ := Option.bind_eq_some_iff.mp hf
      refine x_rI b20 dX35_layPage_149 ?_
      refine w_i2l dX35_layPage_150 ?_
      obtain ⟨_, b21, hf⟩ := Option.bind_eq_some_iff.mp hf
      refine x_cnI hf (e_stV (Yc := YX35_note) (ci := 34) (av := [.int (-1 : Int32), .int (0 : Int32), .long (0 : Int64), .long q12.1, .long s0, .long (x15).toInt64, .long (x19).toInt64]) (st := []) dX35_layPage_151 q5574 mX35_note rfl (k_ok_some b21).1 (k_ok_some b21).2) mX35_note.2.2.1 mX35_note.2.2.2.2.1 (Nat.le_of_ble_eq_true rfl) (Nat.le_of_ble_eq_true rfl) (fun q hq => pX35_note (by omega) hq) (fun q22 hf => ?_)
      refine w_if_eq 161 dX35_layPage_154 (by decide) (fun c23 => ?_) (fun c23 => ?_)
      · replace hf := (if_pos (show q22.1 = 0 from c23)).symm.trans hf
        refine w_iconst dX35_layPage_161 (v := 0) (by decide) ?_
        exact (pX35_layPage_b162 hd hdr hsL hk7 hf).to ⟨rfl, rfl, trivial⟩
      · replace hf := (if_neg (show ¬ (q22.1 = 0) from c23)).symm.trans hf
        exact (pX35_layPage_b157 hd hdr hsL hk7 hf).to ⟨rfl, rfl, trivial⟩
def fX35_layPage_b64 (N : Nat) (sL : Nat → Int32 → Int64 → Int64 → eH → Option (Int32 × eH)) (k7 : Nat → Int32 → Int32 → eH → Option (Int32 × eH)) (l0 : Nat) (l1 : Int32) (l2 : Int32) (h : eH) : Option (Int32 × eH) :=
  (g_A 34 h l0 87).bind fun a1 =>
  (r_I 100 h a1 l2).bind fun x3 =>
  if ¬ x3 = (5 : Int32) then
    fX35_layPage_b163 N sL k7 l0 l1 l2 h
  else
    (g_A 34 h l0 93).bind fun a6 =>
    (r_I 100 h a6 l2).bind fun x8 =>
    if ¬ x8 = (-1073741824 : Int32) then
      (g_A 34 h l0 93).bind fun a11 =>
      (r_I 100 h a11 l2).bind fun x13 =>
      fX35_layPage_b100 N sL k7 l0 l2 (x13).toInt64 h
    else
      (k_ok 34 h l0).bind fun _ =>
      (fX35_pageWidth N l0 h).bind fun q16 =>
      fX35_layPage_b100 N sL k7 l0 l2 q16.1 q16.2
theorem pX35_layPage_b64 {w : eW} {d : Nat} {dr : Nat} (hd : dr + 3 ≤ d + 1) (hdr : 12 ≤ dr) {N : Nat} {sL : Nat → Int32 → Int64 → Int64 → eH → Option (Int32 × eH)} (hsL : ∀ a t0 t1 t2 h q, sL a t0 t1 t2 h = some q → wm w dr YX35_layBox [.ref a, .int t0, .long t1, .long t2] h (e_is (e_rn c_I q))) {k7 : Nat → Int32 → Int32 → eH → Option (Int32 × eH)} (hk7 : ∀ l0 l1 l2 h q, k7 l0 l1 l2 h = some q → wp w (d + 1) YX35_layPage 7 [some (.ref l0), some (.int l1), some (.int l2), none, none] [] h (e_is (e_rn c_I q))) {l0 : Nat} {l1 : Int32} {l2 : Int32} {h : eH} {q} (hf : fX35_layPage_b64 N sL k7 l0 l1 l2 h = some q) : wp w (d + 1) YX35_layPage 64 [some (.ref l0), some (.int l1), some (.int l2), none, none] [] h (e_is (e_rn c_I q)) := by
  unfold fX35_layPage_b64 at hf
  refine w_aload_n dX35_layPage_64 rfl rfl ?_
  obtain ⟨a1, b2, hf⟩ := Option.bind_eq_some_iff.mp hf
  refine GX35_195 b2 dX35_layPage_65 rfl ?_
  refine w_iload_n dX35_layPage_68 rfl rfl ?_
  obtain ⟨x3, b4, hf⟩ := Option.bind_eq_some_iff.mp hf
  refine x_rI b4 dX35_layPage_69 ?_
  refine w_iconst dX35_layPage_70 (v := 5) (by decide) ?_
  refine w_icmp_ne 163 dX35_layPage_71 (by decide) (fun c5 => ?_) (fun c5 => ?_)
  · replace hf := (if_pos (show ¬ x3 = (5 : Int32) from c5)).symm.trans hf
    exact (pX35_layPage_b163 hd hdr hsL hk7 hf).to ⟨rfl, rfl, rfl, trivial⟩
  · replace hf := (if_neg (show ¬ (¬ x3 = (5 : Int32)) from (fun z => z c5))).symm.trans hf
    refine w_aload_n dX35_layPage_74 rfl rfl ?_
    obtain ⟨a6, b7, hf⟩ := Option.bind_eq_some_iff.mp hf
    refine GX35_213 b7 dX35_layPage_75 rfl ?_
    refine w_iload_n dX35_layPage_78 rfl rfl ?_
    obtain ⟨x8, b9, hf⟩ := Option.bind_eq_some_iff.mp hf
    refine x_rI b9 dX35_layPage_79 ?_
    refine w_ldc_w dX35_layPage_80 q5562 ?_
    refine w_icmp_ne 93 dX35_layPage_83 (by decide) (fun c10 => ?_) (fun c10 => ?_)
    · replace hf := (if_pos (show ¬ x8 = (-1073741824 : Int32) from c10)).symm.trans hf
      refine w_aload_n dX35_layPage_93 rfl rfl ?_
      obtain ⟨a11, b12, hf⟩ := Option.bind_eq_some_iff.mp hf
      refine GX35_213 b12 dX35_layPage_94 rfl ?_
      refine w_iload_n dX35_layPage_97 rfl rfl ?_
      obtain ⟨x13, b14, hf⟩ := Option.bind_eq_some_iff.mp hf
      refine x_rI b14 dX35_layPage_98 ?_
      refine w_i2l dX35_layPage_99 ?_
      exact (pX35_layPage_b100 hd hdr hsL hk7 hf).to ⟨rfl, rfl, trivial⟩
    · replace hf := (if_neg (show ¬ (¬ x8 = (-1073741824 : Int32)) from (fun z => z c10))).symm.trans hf
      refine w_aload_n dX35_layPage_86 rfl rfl ?_
      obtain ⟨_, b15, hf⟩ := Option.bind_eq_some_iff.mp hf
      refine x_cnJ hf (e_stV (Yc := YX35_pageWidth) (ci := 34) (av := []) (st := []) dX35_layPage_87 q5582 mX35_pageWidth rfl (k_ok_some b15).1 (k_ok_some b15).2) mX35_pageWidth.2.2.1 mX35_pageWidth.2.2.2.2.1 (Nat.le_of_ble_eq_true rfl) (Nat.le_of_ble_eq_true rfl) (fun q hq => pX35_pageWidth (by omega) hq) (fun q16 hf => ?_)
      refine w_goto 100 dX35_layPage_90 (by decide) ?_
      exact (pX35_layPage_b100 hd hdr hsL hk7 hf).to ⟨rfl, rfl, trivial⟩
def fX35_layPage_b169 (N : Nat) (sL : Nat → Int32 → Int64 → Int64 → eH → Option (Int32 × eH)) (l1 : Int32) (h : eH) : Option (Int32 × eH) :=
  z_r l1 (l1, h)
theorem pX35_layPage_b169 {w : eW} {d : Nat} {dr : Nat} (hd : dr + 3 ≤ d + 1) (hdr : 12 ≤ dr) {N : Nat} {sL : Nat → Int32 → Int64 → Int64 → eH → Option (Int32 × eH)} (hsL : ∀ a t0 t1 t2 h q, sL a t0 t1 t2 h = some q → wm w dr YX35_layBox [.ref a, .int t0, .long t1, .long t2] h (e_is (e_rn c_I q))) {l1 : Int32} {h : eH} {q} (hf : fX35_layPage_b169 N sL l1 h = some q) : wp w (d + 1) YX35_layPage 169 [none, some (.int l1), none, none, none] [] h (e_is (e_rn c_I q)) := by
  unfold fX35_layPage_b169 at hf
  refine w_iload_n dX35_layPage_169 rfl rfl ?_
  obtain ⟨b1, rfl⟩ := z_r_some hf
  exact w_iret dX35_layPage_170 rfl b1 rfl
def fX35_layPage_b7 (N : Nat) (sL : Nat → Int32 → Int64 → Int64 → eH → Option (Int32 × eH)) : Nat → Nat → Int32 → Int32 → eH → Option (Int32 × eH)
  | 0, _, _, _, _ => none
  | n + 1, l0, l1, l2, h =>
    (g_I 34 h l0 96).bind fun x1 =>
    if x1 ≤ l2 then
      fX35_layPage_b169 N sL l1 h
    else
      if l1 = 0 then
        fX35_layPage_b169 N sL l1 h
      else
        (g_A 34 h l0 87).bind fun a5 =>
        (r_I 100 h a5 l2).bind fun x7 =>
        if ¬ x7 = (5 : Int32) then
          fX35_layPage_b64 N sL (fX35_layPage_b7 N sL n) l0 l1 l2 h
        else
          (g_A 34 h l0 92).bind fun a10 =>
          (r_I 100 h a10 l2).bind fun x12 =>
          if x12 < 0 then
            fX35_layPage_b64 N sL (fX35_layPage_b7 N sL n) l0 l1 l2 h
          else
            (g_A 34 h l0 92).bind fun a15 =>
            (r_I 100 h a15 l2).bind fun x17 =>
            (g_A 34 h l0 93).bind fun a19 =>
            (r_I 100 h a19 l2).bind fun x21 =>
            (k_ok 34 h l0).bind fun _ =>
            (fX35_stands N l0 l2 h).bind fun q24 =>
            (k_ok 34 q24.2 l0).bind fun _ =>
            (sL l0 x17 (x21).toInt64 q24.1 q24.2).bind fun q26 =>
            fX35_layPage_b163 N sL (fX35_layPage_b7 N sL n) l0 q26.1 l2 q26.2
theorem pX35_layPage_b7 {w : eW} {d : Nat} {dr : Nat} (hd : dr + 3 ≤ d + 1) (hdr : 12 ≤ dr) {N : Nat} {sL : Nat → Int32 → Int64 → Int64 → eH → Option (Int32 × eH)} (hsL : ∀ a t0 t1 t2 h q, sL a t0 t1 t2 h = some q → wm w dr YX35_layBox [.ref a, .int t0, .long t1, .long t2] h (e_is (e_rn c_I q))) : ∀ (n : Nat) l0 l1 l2 h q, fX35_layPage_b7 N sL n l0 l1 l2 h = some q → wp w (d + 1) YX35_layPage 7 [some (.ref l0), some (.int l1), some (.int l2), none, none] [] h (e_is (e_rn c_I q)) := by
  intro n
  induction n with
  | zero => intro l0 l1 l2 h q hf; simp [fX35_layPage_b7] at hf
  | succ n ih =>
    intro l0 l1 l2 h q hf
    rw [fX35_layPage_b7] at hf
    refine w_iload_n dX35_layPage_7 rfl rfl ?_
    refine w_aload_n dX35_layPage_8 rfl rfl ?_
    obtain ⟨x1, b2, hf⟩ := Option.bind_eq_some_iff.mp hf
    refine GX35_385 b2 dX35_layPage_9 rfl ?_
    refine w_icmp_ge 169 dX35_layPage_12 (by decide) (fun c3 => ?_) (fun c3 => ?_)
    · replace hf := (if_pos (show x1 ≤ l2 from c3)).symm.trans hf
      exact (pX35_layPage_b169 hd hdr hsL hf).to ⟨rfl, trivial⟩
    · replace hf := (if_neg (show ¬ (x1 ≤ l2) from c3)).symm.trans hf
      refine w_iload_n dX35_layPage_15 rfl rfl ?_
      refine w_if_eq 169 dX35_layPage_16 (by decide) (fun c4 => ?_) (fun c4 => ?_)
      · replace hf := (if_pos (show l1 = 0 from c4)).symm.trans hf
        exact (pX35_layPage_b169 hd hdr hsL hf).to ⟨rfl, trivial⟩
      · replace hf := (if_neg (show ¬ (l1 = 0) from c4)).symm.trans hf
        refine w_aload_n dX35_layPage_19 rfl rfl ?_
        obtain ⟨a5, b6, hf⟩ := Option.bind_eq_some_iff.mp hf
        refine GX35_195 b6 dX35_layPage_20 rfl ?_
        refine w_iload_n dX35_layPage_23 rfl rfl ?_
        obtain ⟨x7, b8, hf⟩ := Option.bind_eq_some_iff.mp hf
        refine x_rI b8 dX35_layPage_24 ?_
        refine w_iconst dX35_layPage_25 (v := 5) (by decide) ?_
        refine w_icmp_ne 64 dX35_layPage_26 (by decide) (fun c9 => ?_) (fun c9 => ?_)
        · replace hf := (if_pos (show ¬ x7 = (5 : Int32) from c9)).symm.trans hf
          exact (pX35_layPage_b64 hd hdr hsL ih hf).to ⟨rfl, rfl, rfl, trivial⟩
        · replace hf := (if_neg (show ¬ (¬ x7 = (5 : Int32)) from (fun z => z c9))).symm.trans hf
          refine w_aload_n dX35_layPage_29 rfl rfl ?_
          obtain ⟨a10, b11, hf⟩ := Option.bind_eq_some_iff.mp hf
          refine GX35_210 b11 dX35_layPage_30 rfl ?_
          refine w_iload_n dX35_layPage_33 rfl rfl ?_
          obtain ⟨x12, b13, hf⟩ := Option.bind_eq_some_iff.mp hf
          refine x_rI b13 dX35_layPage_34 ?_
          refine w_if_lt 64 dX35_layPage_35 (by decide) (fun c14 => ?_) (fun c14 => ?_)
          · replace hf := (if_pos (show x12 < 0 from c14)).symm.trans hf
            exact (pX35_layPage_b64 hd hdr hsL ih hf).to ⟨rfl, rfl, rfl, trivial⟩
          · replace hf := (if_neg (show ¬ (x12 < 0) from c14)).symm.trans hf
            refine w_aload_n dX35_layPage_38 rfl rfl ?_
            refine w_aload_n dX35_layPage_39 rfl rfl ?_
            obtain ⟨a15, b16, hf⟩ := Option.bind_eq_some_iff.mp hf
            refine GX35_210 b16 dX35_layPage_40 rfl ?_
            refine w_iload_n dX35_layPage_43 rfl rfl ?_
            obtain ⟨x17, b18, hf⟩ := Option.bind_eq_some_iff.mp hf
            refine x_rI b18 dX35_layPage_44 ?_
            refine w_aload_n dX35_layPage_45 rfl rfl ?_
            obtain ⟨a19, b20, hf⟩ := Option.bind_eq_some_iff.mp hf
            refine GX35_213 b20 dX35_layPage_46 rfl ?_
            refine w_iload_n dX35_layPage_49 rfl rfl ?_
            obtain ⟨x21, b22, hf⟩ := Option.bind_eq_some_iff.mp hf
            refine x_rI b22 dX35_layPage_50 ?_
            refine w_i2l dX35_layPage_51 ?_
            refine w_aload_n dX35_layPage_52 rfl rfl ?_
            refine w_iload_n dX35_layPage_53 rfl rfl ?_
            obtain ⟨_, b23, hf⟩ := Option.bind_eq_some_iff.mp hf
            refine x_cnJ hf (e_stV (Yc := YX35_stands) (ci := 34) (av := [.int l2]) (st := [.long (x21).toInt64, .int x17, .ref l0]) dX35_layPage_54 q5523 mX35_stands rfl (k_ok_some b23).1 (k_ok_some b23).2) mX35_stands.2.2.1 mX35_stands.2.2.2.2.1 (Nat.le_of_ble_eq_true rfl) (Nat.le_of_ble_eq_true rfl) (fun q hq => pX35_stands (by omega) hq) (fun q24 hf => ?_)
            obtain ⟨_, b25, hf⟩ := Option.bind_eq_some_iff.mp hf
            refine x_cnI hf (e_stV (Yc := YX35_layBox) (ci := 34) (av := [.int x17, .long (x21).toInt64, .long q24.1]) (st := []) dX35_layPage_57 q5535 mX35_layBox rfl (k_ok_some b25).1 (k_ok_some b25).2) mX35_layBox.2.2.1 mX35_layBox.2.2.2.2.1 (Nat.le_of_ble_eq_true rfl) (Nat.le_of_ble_eq_true rfl) (fun q hq => (hsL _ _ _ _ _ _ hq).up (by omega)) (fun q26 hf => ?_)
            refine w_istore_n dX35_layPage_60 rfl (by decide) (ls' := [some (.ref l0), some (.int q26.1), some (.int l2), none, none]) rfl ?_
            refine w_goto 163 dX35_layPage_61 (by decide) ?_
            exact (pX35_layPage_b163 hd hdr hsL ih hf).to ⟨rfl, rfl, rfl, trivial⟩
def fX35_layPage (N : Nat) (sL : Nat → Int32 → Int64 → Int64 → eH → Option (Int32 × eH)) (this : Nat) (h : eH) : Option (Int32 × eH) :=
  (g_I 34 h this 95).bind fun x1 =>
  fX35_layPage_b7 N sL N this (1 : Int32) x1 h
theorem pX35_layPage {w : eW} {d : Nat} {dr : Nat} (hd : dr + 3 ≤ d) (hdr : 12 ≤ dr) {N : Nat} {sL : Nat → Int32 → Int64 → Int64 → eH → Option (Int32 × eH)} (hsL : ∀ a t0 t1 t2 h q, sL a t0 t1 t2 h = some q → wm w dr YX35_layBox [.ref a, .int t0, .long t1, .long t2] h (e_is (e_rn c_I q))) {this : Nat} {h : eH} {q} (hf : fX35_layPage N sL this h = some q) : wm w d YX35_layPage [.ref this] h (e_is (e_rn c_I q)) := by
  obtain ⟨d, rfl⟩ : ∃ e, d = e + 1 := ⟨d - 1, by omega⟩
  show wp w (d + 1) YX35_layPage 0 [some (.ref this), none, none, none, none] [] h _
  unfold fX35_layPage at hf
  refine w_iconst dX35_layPage_0 (v := 1) (by decide) ?_
  refine w_istore_n dX35_layPage_1 rfl (by decide) (ls' := [some (.ref this), some (.int (1 : Int32)), none, none, none]) rfl ?_
  refine w_aload_n dX35_layPage_2 rfl rfl ?_
  obtain ⟨x1, b2, hf⟩ := Option.bind_eq_some_iff.mp hf
  refine GX35_382 b2 dX35_layPage_3 rfl ?_
  refine w_istore_n dX35_layPage_6 rfl (by decide) (ls' := [some (.ref this), some (.int (1 : Int32)), some (.int x1), none, none]) rfl ?_
  exact (pX35_layPage_b7 hd hdr hsL N _ _ _ _ _ hf).to ⟨rfl, rfl, rfl, trivial⟩
abbrev cX35_counter : ByteArray := prog_37_method_124_code
def yX35_counter : MethodName := ⟨RX35, "counter", "(I)I"⟩
def YX35_counter : eY := (yX35_counter, cX35_counter, 2, (Option.some FieldType.int), [])
theorem mX35_counter : e_mv YX35_counter RX35 1 := ⟨q5597, qs339, q5598, by decide, by decide +kernel, (e_sig (by decide +kernel))⟩
theorem dX35_counter_0 : decode cX35_counter 0 = .ok (.aload_n 0, 1) := dc_42 (by decide +kernel)
theorem dX35_counter_1 : decode cX35_counter 1 = .ok (.sipush 1716, 3) := dc_17 (a := 6) (b := 180) (v := 1716) (by decide +kernel)
theorem dX35_counter_4 : decode cX35_counter 4 = .ok (.iload_n 1, 1) := dc_27 (by decide +kernel)
theorem dX35_counter_5 : decode cX35_counter 5 = .ok (.iadd, 1) := dc_96 (by decide +kernel)
theorem dX35_counter_6 : decode cX35_counter 6 = .ok (.invokevirtual 431, 3) := dc_182 (a := 1) (b := 175) (n := 431) (by decide +kernel)
theorem dX35_counter_9 : decode cX35_counter 9 = .ok (.ireturn, 1) := dc_172 (by decide +kernel)
def fX35_counter (this : Nat) (p0 : Int32) (h : eH) : Option (Int32 × eH) :=
  (k_ok 34 h this).bind fun _ =>
  (fX35_now this ((1716 : Int32) + p0) h).bind fun q2 =>
  some (q2.1, q2.2)
theorem pX35_counter {w : eW} {d : Nat} (hd : 1 ≤ d) {this : Nat} {p0 : Int32} {h : eH} {q} (hf : fX35_counter this p0 h = some q) : wm w d YX35_counter [.ref this, .int p0] h (e_is (e_rn c_I q)) := by
  obtain ⟨d, rfl⟩ : ∃ e, d = e + 1 := ⟨d - 1, by omega⟩
  show wp w (d + 1) YX35_counter 0 [some (.ref this), some (.int p0)] [] h _
  unfold fX35_counter at hf
  refine w_aload_n dX35_counter_0 rfl rfl ?_
  refine w_sipush dX35_counter_1 (v := 1716) (by decide) ?_
  refine w_iload_n dX35_counter_4 rfl rfl ?_
  refine w_iadd dX35_counter_5 ?_
  obtain ⟨_, b1, hf⟩ := Option.bind_eq_some_iff.mp hf
  refine x_cnI hf (e_stV (Yc := YX35_now) (ci := 34) (av := [.int ((1716 : Int32) + p0)]) (st := []) dX35_counter_6 q5097 mX35_now rfl (k_ok_some b1).1 (k_ok_some b1).2) mX35_now.2.2.1 mX35_now.2.2.2.2.1 (Nat.le_of_ble_eq_true rfl) (Nat.le_of_ble_eq_true rfl) (fun q hq => pX35_now (by omega) hq) (fun q2 hf => ?_)
  cases hf
  exact w_iret dX35_counter_9 rfl rfl rfl
abbrev cX38_findMoves : ByteArray := prog_39_method_7_code
def yX38_findMoves : MethodName := ⟨RX38, "findMoves", "()V"⟩
def YX38_findMoves : eY := (yX38_findMoves, cX38_findMoves, 4, none, [])
theorem mX38_findMoves : e_mv YX38_findMoves RX38 0 := ⟨q5605, qs340, q5606, by decide, by decide +kernel, (e_sig (by decide +kernel))⟩
theorem dX38_findMoves_0 : decode cX38_findMoves 0 = .ok (.iconst 0, 1) := dc_3 (by decide +kernel)
theorem dX38_findMoves_1 : decode cX38_findMoves 1 = .ok (.istore_n 1, 1) := dc_60 (by decide +kernel)
theorem dX38_findMoves_2 : decode cX38_findMoves 2 = .ok (.iconst 0, 1) := dc_3 (by decide +kernel)
theorem dX38_findMoves_3 : decode cX38_findMoves 3 = .ok (.istore_n 2, 1) := dc_61 (by decide +kernel)
theorem dX38_findMoves_4 : decode cX38_findMoves 4 = .ok (.iconst 0, 1) := dc_3 (by decide +kernel)
theorem dX38_findMoves_5 : decode cX38_findMoves 5 = .ok (.istore_n 3, 1) := dc_62 (by decide +kernel)
theorem dX38_findMoves_6 : decode cX38_findMoves 6 = .ok (.iload_n 3, 1) := dc_29 (by decide +kernel)
theorem dX38_findMoves_7 : decode cX38_findMoves 7 = .ok (.aload_n 0, 1) := dc_42 (by decide +kernel)
theorem dX38_findMoves_8 : decode cX38_findMoves 8 = .ok (.getfield 88, 3) := dc_180 (a := 0) (b := 88) (n := 88) (by decide +kernel)
theorem dX38_findMoves_11 : decode cX38_findMoves 11 = .ok (.if_icmp .ge 58, 3) := dc_162 (a := 0) (b := 58) (v := 58) (by decide +kernel)
theorem dX38_findMoves_14 : decode cX38_findMoves 14 = .ok (.aload_n 0, 1) := dc_42 (by decide +kernel)
theorem dX38_findMoves_15 : decode cX38_findMoves 15 = .ok (.getfield 57, 3) := dc_180 (a := 0) (b := 57) (n := 57) (by decide +kernel)
theorem dX38_findMoves_18 : decode cX38_findMoves 18 = .ok (.iload_n 3, 1) := dc_29 (by decide +kernel)
theorem dX38_findMoves_19 : decode cX38_findMoves 19 = .ok (.aload_n 0, 1) := dc_42 (by decide +kernel)
theorem dX38_findMoves_20 : decode cX38_findMoves 20 = .ok (.getfield 45, 3) := dc_180 (a := 0) (b := 45) (n := 45) (by decide +kernel)
theorem dX38_findMoves_23 : decode cX38_findMoves 23 = .ok (.iload_n 3, 1) := dc_29 (by decide +kernel)
theorem dX38_findMoves_24 : decode cX38_findMoves 24 = .ok (.iaload, 1) := dc_46 (by decide +kernel)
theorem dX38_findMoves_25 : decode cX38_findMoves 25 = .ok (.iload_n 1, 1) := dc_27 (by decide +kernel)
theorem dX38_findMoves_26 : decode cX38_findMoves 26 = .ok (.isub, 1) := dc_100 (by decide +kernel)
theorem dX38_findMoves_27 : decode cX38_findMoves 27 = .ok (.iastore, 1) := dc_79 (by decide +kernel)
theorem dX38_findMoves_28 : decode cX38_findMoves 28 = .ok (.aload_n 0, 1) := dc_42 (by decide +kernel)
theorem dX38_findMoves_29 : decode cX38_findMoves 29 = .ok (.getfield 60, 3) := dc_180 (a := 0) (b := 60) (n := 60) (by decide +kernel)
theorem dX38_findMoves_32 : decode cX38_findMoves 32 = .ok (.iload_n 3, 1) := dc_29 (by decide +kernel)
theorem dX38_findMoves_33 : decode cX38_findMoves 33 = .ok (.aload_n 0, 1) := dc_42 (by decide +kernel)
theorem dX38_findMoves_34 : decode cX38_findMoves 34 = .ok (.getfield 48, 3) := dc_180 (a := 0) (b := 48) (n := 48) (by decide +kernel)
theorem dX38_findMoves_37 : decode cX38_findMoves 37 = .ok (.iload_n 3, 1) := dc_29 (by decide +kernel)
theorem dX38_findMoves_38 : decode cX38_findMoves 38 = .ok (.iaload, 1) := dc_46 (by decide +kernel)
theorem dX38_findMoves_39 : decode cX38_findMoves 39 = .ok (.iload_n 2, 1) := dc_28 (by decide +kernel)
theorem dX38_findMoves_40 : decode cX38_findMoves 40 = .ok (.isub, 1) := dc_100 (by decide +kernel)
theorem dX38_findMoves_41 : decode cX38_findMoves 41 = .ok (.iastore, 1) := dc_79 (by decide +kernel)
theorem dX38_findMoves_42 : decode cX38_findMoves 42 = .ok (.aload_n 0, 1) := dc_42 (by decide +kernel)
theorem dX38_findMoves_43 : decode cX38_findMoves 43 = .ok (.getfield 48, 3) := dc_180 (a := 0) (b := 48) (n := 48) (by decide +kernel)
theorem dX38_findMoves_46 : decode cX38_findMoves 46 = .ok (.iload_n 3, 1) := dc_29 (by decide +kernel)
theorem dX38_findMoves_47 : decode cX38_findMoves 47 = .ok (.iaload, 1) := dc_46 (by decide +kernel)
theorem dX38_findMoves_48 : decode cX38_findMoves 48 = .ok (.istore_n 2, 1) := dc_61 (by decide +kernel)
theorem dX38_findMoves_49 : decode cX38_findMoves 49 = .ok (.aload_n 0, 1) := dc_42 (by decide +kernel)
theorem dX38_findMoves_50 : decode cX38_findMoves 50 = .ok (.getfield 45, 3) := dc_180 (a := 0) (b := 45) (n := 45) (by decide +kernel)
theorem dX38_findMoves_53 : decode cX38_findMoves 53 = .ok (.iload_n 3, 1) := dc_29 (by decide +kernel)
theorem dX38_findMoves_54 : decode cX38_findMoves 54 = .ok (.iaload, 1) := dc_46 (by decide +kernel)
theorem dX38_findMoves_55 : decode cX38_findMoves 55 = .ok (.aload_n 0, 1) := dc_42 (by decide +kernel)
theorem dX38_findMoves_56 : decode cX38_findMoves 56 = .ok (.getfield 54, 3) := dc_180 (a := 0) (b := 54) (n := 54) (by decide +kernel)
theorem dX38_findMoves_59 : decode cX38_findMoves 59 = .ok (.iload_n 3, 1) := dc_29 (by decide +kernel)
theorem dX38_findMoves_60 : decode cX38_findMoves 60 = .ok (.iaload, 1) := dc_46 (by decide +kernel)
theorem dX38_findMoves_61 : decode cX38_findMoves 61 = .ok (.iadd, 1) := dc_96 (by decide +kernel)
theorem dX38_findMoves_62 : decode cX38_findMoves 62 = .ok (.istore_n 1, 1) := dc_60 (by decide +kernel)
theorem dX38_findMoves_63 : decode cX38_findMoves 63 = .ok (.iinc 3 1, 3) := dc_132 (a := 3) (b := 1) (v := 1) (by decide +kernel)
theorem dX38_findMoves_66 : decode cX38_findMoves 66 = .ok (.goto (-60), 3) := dc_167 (a := 255) (b := 196) (v := -60) (by decide +kernel)
theorem dX38_findMoves_69 : decode cX38_findMoves 69 = .ok (.return_, 1) := dc_177 (by decide +kernel)
theorem GX38_45 {w : eW} {d : Nat} {Y : eY} {pc : Nat} {ls : eL} {st : List Value} {h : eH} {Q : eO → eH → Prop} {a : Nat} {x : Nat} (hf : g_A 37 h a 16 = some x) (hd : decode Y.2.1 pc = .ok (.getfield 45, 3)) (hY : Y.1.cls = RX38) (kk : wp w d Y (pc + 3) ls (.ref x :: st) h Q) : wp w d Y pc ls (.ref a :: st) h Q := x_gA (ci := 37) (k := 16) hf hd rfl (by decide) (by rw [hY]; exact q4411) kk
theorem GX38_48 {w : eW} {d : Nat} {Y : eY} {pc : Nat} {ls : eL} {st : List Value} {h : eH} {Q : eO → eH → Prop} {a : Nat} {x : Nat} (hf : g_A 37 h a 17 = some x) (hd : decode Y.2.1 pc = .ok (.getfield 48, 3)) (hY : Y.1.cls = RX38) (kk : wp w d Y (pc + 3) ls (.ref x :: st) h Q) : wp w d Y pc ls (.ref a :: st) h Q := x_gA (ci := 37) (k := 17) hf hd rfl (by decide) (by rw [hY]; exact q4413) kk
theorem GX38_54 {w : eW} {d : Nat} {Y : eY} {pc : Nat} {ls : eL} {st : List Value} {h : eH} {Q : eO → eH → Prop} {a : Nat} {x : Nat} (hf : g_A 37 h a 19 = some x) (hd : decode Y.2.1 pc = .ok (.getfield 54, 3)) (hY : Y.1.cls = RX38) (kk : wp w d Y (pc + 3) ls (.ref x :: st) h Q) : wp w d Y pc ls (.ref a :: st) h Q := x_gA (ci := 37) (k := 19) hf hd rfl (by decide) (by rw [hY]; exact q4417) kk
theorem GX38_57 {w : eW} {d : Nat} {Y : eY} {pc : Nat} {ls : eL} {st : List Value} {h : eH} {Q : eO → eH → Prop} {a : Nat} {x : Nat} (hf : g_A 37 h a 20 = some x) (hd : decode Y.2.1 pc = .ok (.getfield 57, 3)) (hY : Y.1.cls = RX38) (kk : wp w d Y (pc + 3) ls (.ref x :: st) h Q) : wp w d Y pc ls (.ref a :: st) h Q := x_gA (ci := 37) (k := 20) hf hd rfl (by decide) (by rw [hY]; exact q4419) kk
theorem GX38_60 {w : eW} {d : Nat} {Y : eY} {pc : Nat} {ls : eL} {st : List Value} {h : eH} {Q : eO → eH → Prop} {a : Nat} {x : Nat} (hf : g_A 37 h a 21 = some x) (hd : decode Y.2.1 pc = .ok (.getfield 60, 3)) (hY : Y.1.cls = RX38) (kk : wp w d Y (pc + 3) ls (.ref x :: st) h Q) : wp w d Y pc ls (.ref a :: st) h Q := x_gA (ci := 37) (k := 21) hf hd rfl (by decide) (by rw [hY]; exact q4420) kk
theorem GX38_88 {w : eW} {d : Nat} {Y : eY} {pc : Nat} {ls : eL} {st : List Value} {h : eH} {Q : eO → eH → Prop} {a : Nat} {x : Int32} (hf : g_I 37 h a 13 = some x) (hd : decode Y.2.1 pc = .ok (.getfield 88, 3)) (hY : Y.1.cls = RX38) (kk : wp w d Y (pc + 3) ls (.int x :: st) h Q) : wp w d Y pc ls (.ref a :: st) h Q := x_gI (ci := 37) (k := 13) hf hd rfl (by decide) (by rw [hY]; exact q4405) kk
def fX38_findMoves_b6 (N : Nat) : Nat → Nat → Int32 → Int32 → Int32 → eH → Option (Unit × eH)
  | 0, _, _, _, _, _ => none
  | n + 1, l0, l1, l2, l3, h =>
    (g_I 37 h l0 13).bind fun x1 =>
    if x1 ≤ l3 then
      some ((), h)
    else
      (g_A 37 h l0 20).bind fun a4 =>
      (g_A 37 h l0 16).bind fun a6 =>
      (r_I 100 h a6 l3).bind fun x8 =>
      (q_V 100 h a4 l3 (.int (x8 - l1))).bind fun h10 =>
      (g_A 37 h10 l0 21).bind fun a12 =>
      (g_A 37 h10 l0 17).bind fun a14 =>
      (r_I 100 h10 a14 l3).bind fun x16 =>
      (q_V 100 h10 a12 l3 (.int (x16 - l2))).bind fun h18 =>
      (g_A 37 h18 l0 17).bind fun a20 =>
      (r_I 100 h18 a20 l3).bind fun x22 =>
      (g_A 37 h18 l0 16).bind fun a24 =>
      (r_I 100 h18 a24 l3).bind fun x26 =>
      (g_A 37 h18 l0 19).bind fun a28 =>
      (r_I 100 h18 a28 l3).bind fun x30 =>
      fX38_findMoves_b6 N n l0 (x26 + x30) x22 (l3 + (1 : Int32)) h18
theorem pX38_findMoves_b6 {w : eW} {d : Nat} (hd : 0 ≤ d) {N : Nat} : ∀ (n : Nat) l0 l1 l2 l3 h q, fX38_findMoves_b6 N n l0 l1 l2 l3 h = some q → wp w d YX38_findMoves 6 [some (.ref l0), some (.int l1), some (.int l2), some (.int l3)] [] h (e_is (e_rn c_V q)) := by
  intro n
  induction n with
  | zero => intro l0 l1 l2 l3 h q hf; simp [fX38_findMoves_b6] at hf
  | succ n ih =>
    intro l0 l1 l2 l3 h q hf
    rw [fX38_findMoves_b6] at hf
    refine w_iload_n dX38_findMoves_6 rfl rfl ?_
    refine w_aload_n dX38_findMoves_7 rfl rfl ?_
    obtain ⟨x1, b2, hf⟩ := Option.bind_eq_some_iff.mp hf
    refine GX38_88 b2 dX38_findMoves_8 rfl ?_
    refine w_icmp_ge 69 dX38_findMoves_11 (by decide) (fun c3 => ?_) (fun c3 => ?_)
    · replace hf := (if_pos (show x1 ≤ l3 from c3)).symm.trans hf
      cases hf
      exact w_vret dX38_findMoves_69 rfl rfl
    · replace hf := (if_neg (show ¬ (x1 ≤ l3) from c3)).symm.trans hf
      refine w_aload_n dX38_findMoves_14 rfl rfl ?_
      obtain ⟨a4, b5, hf⟩ := Option.bind_eq_some_iff.mp hf
      refine GX38_57 b5 dX38_findMoves_15 rfl ?_
      refine w_iload_n dX38_findMoves_18 rfl rfl ?_
      refine w_aload_n dX38_findMoves_19 rfl rfl ?_
      obtain ⟨a6, b7, hf⟩ := Option.bind_eq_some_iff.mp hf
      refine GX38_45 b7 dX38_findMoves_20 rfl ?_
      refine w_iload_n dX38_findMoves_23 rfl rfl ?_
      obtain ⟨x8, b9, hf⟩ := Option.bind_eq_some_iff.mp hf
      refine x_rI b9 dX38_findMoves_24 ?_
      refine w_iload_n dX38_findMoves_25 rfl rfl ?_
      refine w_isub dX38_findMoves_26 ?_
      obtain ⟨h10, b11, hf⟩ := Option.bind_eq_some_iff.mp hf
      refine x_qI b11 dX38_findMoves_27 ?_
      refine w_aload_n dX38_findMoves_28 rfl rfl ?_
      obtain ⟨a12, b13, hf⟩ := Option.bind_eq_some_iff.mp hf
      refine GX38_60 b13 dX38_findMoves_29 rfl ?_
      refine w_iload_n dX38_findMoves_32 rfl rfl ?_
      refine w_aload_n dX38_findMoves_33 rfl rfl ?_
      obtain ⟨a14, b15, hf⟩ := Option.bind_eq_some_iff.mp hf
      refine GX38_48 b15 dX38_findMoves_34 rfl ?_
      refine w_iload_n dX38_findMoves_37 rfl rfl ?_
      obtain ⟨x16, b17, hf⟩ := Option.bind_eq_some_iff.mp hf
      refine x_rI b17 dX38_findMoves_38 ?_
      refine w_iload_n dX38_findMoves_39 rfl rfl ?_
      refine w_isub dX38_findMoves_40 ?_
      obtain ⟨h18, b19, hf⟩ := Option.bind_eq_some_iff.mp hf
      refine x_qI b19 dX38_findMoves_41 ?_
      refine w_aload_n dX38_findMoves_42 rfl rfl ?_
      obtain ⟨a20, b21, hf⟩ := Option.bind_eq_some_iff.mp hf
      refine GX38_48 b21 dX38_findMoves_43 rfl ?_
      refine w_iload_n dX38_findMoves_46 rfl rfl ?_
      obtain ⟨x22, b23, hf⟩ := Option.bind_eq_some_iff.mp hf
      refine x_rI b23 dX38_findMoves_47 ?_
      refine w_istore_n dX38_findMoves_48 rfl (by decide) (ls' := [some (.ref l0), some (.int l1), some (.int x22), some (.int l3)]) rfl ?_
      refine w_aload_n dX38_findMoves_49 rfl rfl ?_
      obtain ⟨a24, b25, hf⟩ := Option.bind_eq_some_iff.mp hf
      refine GX38_45 b25 dX38_findMoves_50 rfl ?_
      refine w_iload_n dX38_findMoves_53 rfl rfl ?_
      obtain ⟨x26, b27, hf⟩ := Option.bind_eq_some_iff.mp hf
      refine x_rI b27 dX38_findMoves_54 ?_
      refine w_aload_n dX38_findMoves_55 rfl rfl ?_
      obtain ⟨a28, b29, hf⟩ := Option.bind_eq_some_iff.mp hf
      refine GX38_54 b29 dX38_findMoves_56 rfl ?_
      refine w_iload_n dX38_findMoves_59 rfl rfl ?_
      obtain ⟨x30, b31, hf⟩ := Option.bind_eq_some_iff.mp hf
      refine x_rI b31 dX38_findMoves_60 ?_
      refine w_iadd dX38_findMoves_61 ?_
      refine w_istore_n dX38_findMoves_62 rfl (by decide) (ls' := [some (.ref l0), some (.int (x26 + x30)), some (.int x22), some (.int l3)]) rfl ?_
      refine w_iinc dX38_findMoves_63 (v := (l3 + (1 : Int32))) rfl rfl (by decide) (ls' := [some (.ref l0), some (.int (x26 + x30)), some (.int x22), some (.int (l3 + (1 : Int32)))]) rfl ?_
      refine w_goto 6 dX38_findMoves_66 (by decide) ?_
      exact (ih _ _ _ _ _ _ hf).to ⟨rfl, rfl, rfl, rfl, trivial⟩
def fX38_findMoves (N : Nat) (this : Nat) (h : eH) : Option (Unit × eH) :=
  fX38_findMoves_b6 N N this (0 : Int32) (0 : Int32) (0 : Int32) h
theorem pX38_findMoves {w : eW} {d : Nat} (hd : 0 ≤ d) {N : Nat} {this : Nat} {h : eH} {q} (hf : fX38_findMoves N this h = some q) : wm w d YX38_findMoves [.ref this] h (e_is (e_rn c_V q)) := by
  show wp w d YX38_findMoves 0 [some (.ref this), none, none, none] [] h _
  unfold fX38_findMoves at hf
  refine w_iconst dX38_findMoves_0 (v := 0) (by decide) ?_
  refine w_istore_n dX38_findMoves_1 rfl (by decide) (ls' := [some (.ref this), some (.int (0 : Int32)), none, none]) rfl ?_
  refine w_iconst dX38_findMoves_2 (v := 0) (by decide) ?_
  refine w_istore_n dX38_findMoves_3 rfl (by decide) (ls' := [some (.ref this), some (.int (0 : Int32)), some (.int (0 : Int32)), none]) rfl ?_
  refine w_iconst dX38_findMoves_4 (v := 0) (by decide) ?_
  refine w_istore_n dX38_findMoves_5 rfl (by decide) (ls' := [some (.ref this), some (.int (0 : Int32)), some (.int (0 : Int32)), some (.int (0 : Int32))]) rfl ?_
  exact (pX38_findMoves_b6 hd N _ _ _ _ _ _ hf).to ⟨rfl, rfl, rfl, rfl, trivial⟩
abbrev cX38_lay : ByteArray := prog_39_method_5_code
def yX38_lay : MethodName := ⟨RX38, "lay", "(I)V"⟩
def YX38_lay : eY := (yX38_lay, cX38_lay, 2, none, [])
theorem mX38_lay : e_mv YX38_lay RX38 1 := ⟨q5069, qs234, q5070, by decide, by decide +kernel, (e_sig (by decide +kernel))⟩
theorem dX38_lay_0 : decode cX38_lay 0 = .ok (.aload_n 0, 1) := dc_42 (by decide +kernel)
theorem dX38_lay_1 : decode cX38_lay 1 = .ok (.getfield 28, 3) := dc_180 (a := 0) (b := 28) (n := 28) (by decide +kernel)
theorem dX38_lay_4 : decode cX38_lay 4 = .ok (.aload_n 0, 1) := dc_42 (by decide +kernel)
theorem dX38_lay_5 : decode cX38_lay 5 = .ok (.getfield 66, 3) := dc_180 (a := 0) (b := 66) (n := 66) (by decide +kernel)
theorem dX38_lay_8 : decode cX38_lay 8 = .ok (.iload_n 1, 1) := dc_27 (by decide +kernel)
theorem dX38_lay_9 : decode cX38_lay 9 = .ok (.i2b, 1) := dc_145 (by decide +kernel)
theorem dX38_lay_10 : decode cX38_lay 10 = .ok (.bastore, 1) := dc_84 (by decide +kernel)
theorem dX38_lay_11 : decode cX38_lay 11 = .ok (.aload_n 0, 1) := dc_42 (by decide +kernel)
theorem dX38_lay_12 : decode cX38_lay 12 = .ok (.dup, 1) := dc_89 (by decide +kernel)
theorem dX38_lay_13 : decode cX38_lay 13 = .ok (.getfield 66, 3) := dc_180 (a := 0) (b := 66) (n := 66) (by decide +kernel)
theorem dX38_lay_16 : decode cX38_lay 16 = .ok (.iconst 1, 1) := dc_4 (by decide +kernel)
theorem dX38_lay_17 : decode cX38_lay 17 = .ok (.iadd, 1) := dc_96 (by decide +kernel)
theorem dX38_lay_18 : decode cX38_lay 18 = .ok (.putfield 66, 3) := dc_181 (a := 0) (b := 66) (n := 66) (by decide +kernel)
theorem dX38_lay_21 : decode cX38_lay 21 = .ok (.return_, 1) := dc_177 (by decide +kernel)
theorem GX38_28 {w : eW} {d : Nat} {Y : eY} {pc : Nat} {ls : eL} {st : List Value} {h : eH} {Q : eO → eH → Prop} {a : Nat} {x : Nat} (hf : g_A 37 h a 6 = some x) (hd : decode Y.2.1 pc = .ok (.getfield 28, 3)) (hY : Y.1.cls = RX38) (kk : wp w d Y (pc + 3) ls (.ref x :: st) h Q) : wp w d Y pc ls (.ref a :: st) h Q := x_gA (ci := 37) (k := 6) hf hd rfl (by decide) (by rw [hY]; exact q4397) kk
theorem GX38_66 {w : eW} {d : Nat} {Y : eY} {pc : Nat} {ls : eL} {st : List Value} {h : eH} {Q : eO → eH → Prop} {a : Nat} {x : Int32} (hf : g_I 37 h a 5 = some x) (hd : decode Y.2.1 pc = .ok (.getfield 66, 3)) (hY : Y.1.cls = RX38) (kk : wp w d Y (pc + 3) ls (.int x :: st) h Q) : wp w d Y pc ls (.ref a :: st) h Q := x_gI (ci := 37) (k := 5) hf hd rfl (by decide) (by rw [hY]; exact q4395) kk
theorem SX38_66 {w : eW} {d : Nat} {Y : eY} {pc : Nat} {ls : eL} {st : List Value} {h : eH} {Q : eO → eH → Prop} {a : Nat} {h' : eH} {x : Int32} (hf : p_V 37 h a 5 (.int x) = some h') (hd : decode Y.2.1 pc = .ok (.putfield 66, 3)) (hY : Y.1.cls = RX38) (kk : wp w d Y (pc + 3) ls st h' Q) : wp w d Y pc ls (.int x :: .ref a :: st) h Q := x_pI (ci := 37) (k := 5) hf hd rfl (by decide) (by rw [hY]; exact q4395) rfl rfl kk
def fX38_lay (this : Nat) (p0 : Int32) (h : eH) : Option (Unit × eH) :=
  (g_A 37 h this 6).bind fun a1 =>
  (g_I 37 h this 5).bind fun x3 =>
  (q_V 102 h a1 x3 (.int ((p0).toInt8.toInt32).toInt8.toInt32)).bind fun h5 =>
  (g_I 37 h5 this 5).bind fun x7 =>
  (p_V 37 h5 this 5 (.int (x7 + (1 : Int32)))).bind fun h9 =>
  some ((), h9)
theorem pX38_lay {w : eW} {d : Nat} (hd : 0 ≤ d) {this : Nat} {p0 : Int32} {h : eH} {q} (hf : fX38_lay this p0 h = some q) : wm w d YX38_lay [.ref this, .int p0] h (e_is (e_rn c_V q)) := by
  show wp w d YX38_lay 0 [some (.ref this), some (.int p0)] [] h _
  unfold fX38_lay at hf
  refine w_aload_n dX38_lay_0 rfl rfl ?_
  obtain ⟨a1, b2, hf⟩ := Option.bind_eq_some_iff.mp hf
  refine GX38_28 b2 dX38_lay_1 rfl ?_
  refine w_aload_n dX38_lay_4 rfl rfl ?_
  obtain ⟨x3, b4, hf⟩ := Option.bind_eq_some_iff.mp hf
  refine GX38_66 b4 dX38_lay_5 rfl ?_
  refine w_iload_n dX38_lay_8 rfl rfl ?_
  refine w_i2b dX38_lay_9 ?_
  obtain ⟨h5, b6, hf⟩ := Option.bind_eq_some_iff.mp hf
  refine x_qB b6 dX38_lay_10 ?_
  refine w_aload_n dX38_lay_11 rfl rfl ?_
  refine w_dup dX38_lay_12 rfl ?_
  obtain ⟨x7, b8, hf⟩ := Option.bind_eq_some_iff.mp hf
  refine GX38_66 b8 dX38_lay_13 rfl ?_
  refine w_iconst dX38_lay_16 (v := 1) (by decide) ?_
  refine w_iadd dX38_lay_17 ?_
  obtain ⟨h9, b10, hf⟩ := Option.bind_eq_some_iff.mp hf
  refine SX38_66 b10 dX38_lay_18 rfl ?_
  cases hf
  exact w_vret dX38_lay_21 rfl rfl
abbrev cX38_layNumber : ByteArray := prog_39_method_6_code
def yX38_layNumber : MethodName := ⟨RX38, "layNumber", "(II)V"⟩
def YX38_layNumber : eY := (yX38_layNumber, cX38_layNumber, 4, none, [])
theorem mX38_layNumber : e_mv YX38_layNumber RX38 2 := ⟨q5074, qs235, q5075, by decide, by decide +kernel, (e_sig (by decide +kernel))⟩
theorem dX38_layNumber_0 : decode cX38_layNumber 0 = .ok (.iload_n 2, 1) := dc_28 (by decide +kernel)
theorem dX38_layNumber_1 : decode cX38_layNumber 1 = .ok (.iconst 1, 1) := dc_4 (by decide +kernel)
theorem dX38_layNumber_2 : decode cX38_layNumber 2 = .ok (.isub, 1) := dc_100 (by decide +kernel)
theorem dX38_layNumber_3 : decode cX38_layNumber 3 = .ok (.istore_n 3, 1) := dc_62 (by decide +kernel)
theorem dX38_layNumber_4 : decode cX38_layNumber 4 = .ok (.iload_n 3, 1) := dc_29 (by decide +kernel)
theorem dX38_layNumber_5 : decode cX38_layNumber 5 = .ok (.ifCond .lt 19, 3) := dc_155 (a := 0) (b := 19) (v := 19) (by decide +kernel)
theorem dX38_layNumber_8 : decode cX38_layNumber 8 = .ok (.aload_n 0, 1) := dc_42 (by decide +kernel)
theorem dX38_layNumber_9 : decode cX38_layNumber 9 = .ok (.iload_n 1, 1) := dc_27 (by decide +kernel)
theorem dX38_layNumber_10 : decode cX38_layNumber 10 = .ok (.bipush 8, 2) := dc_16 (a := 8) (v := 8) (by decide +kernel)
theorem dX38_layNumber_12 : decode cX38_layNumber 12 = .ok (.iload_n 3, 1) := dc_29 (by decide +kernel)
theorem dX38_layNumber_13 : decode cX38_layNumber 13 = .ok (.imul, 1) := dc_104 (by decide +kernel)
theorem dX38_layNumber_14 : decode cX38_layNumber 14 = .ok (.ishr, 1) := dc_122 (by decide +kernel)
theorem dX38_layNumber_15 : decode cX38_layNumber 15 = .ok (.invokevirtual 84, 3) := dc_182 (a := 0) (b := 84) (n := 84) (by decide +kernel)
theorem dX38_layNumber_18 : decode cX38_layNumber 18 = .ok (.iinc 3 (-1), 3) := dc_132 (a := 3) (b := 255) (v := -1) (by decide +kernel)
theorem dX38_layNumber_21 : decode cX38_layNumber 21 = .ok (.goto (-17), 3) := dc_167 (a := 255) (b := 239) (v := -17) (by decide +kernel)
theorem dX38_layNumber_24 : decode cX38_layNumber 24 = .ok (.return_, 1) := dc_177 (by decide +kernel)
def fX38_layNumber_b4 (N : Nat) : Nat → Nat → Int32 → Int32 → eH → Option (Unit × eH)
  | 0, _, _, _, _ => none
  | n + 1, l0, l1, l3, h =>
    if l3 < 0 then
      some ((), h)
    else
      (k_ok 37 h l0).bind fun _ =>
      (fX38_lay l0 (l1 >>> (((8 : Int32) * l3) &&& 31)) h).bind fun q3 =>
      fX38_layNumber_b4 N n l0 l1 (l3 + (-1 : Int32)) q3.2
theorem pX38_layNumber_b4 {w : eW} {d : Nat} (hd : 1 ≤ d + 1) {N : Nat} : ∀ (n : Nat) l0 l1 l3 h q, fX38_layNumber_b4 N n l0 l1 l3 h = some q → wp w (d + 1) YX38_layNumber 4 [some (.ref l0), some (.int l1), none, some (.int l3)] [] h (e_is (e_rn c_V q)) := by
  intro n
  induction n with
  | zero => intro l0 l1 l3 h q hf; simp [fX38_layNumber_b4] at hf
  | succ n ih =>
    intro l0 l1 l3 h q hf
    rw [fX38_layNumber_b4] at hf
    refine w_iload_n dX38_layNumber_4 rfl rfl ?_
    refine w_if_lt 24 dX38_layNumber_5 (by decide) (fun c1 => ?_) (fun c1 => ?_)
    · replace hf := (if_pos (show l3 < 0 from c1)).symm.trans hf
      cases hf
      exact w_vret dX38_layNumber_24 rfl rfl
    · replace hf := (if_neg (show ¬ (l3 < 0) from c1)).symm.trans hf
      refine w_aload_n dX38_layNumber_8 rfl rfl ?_
      refine w_iload_n dX38_layNumber_9 rfl rfl ?_
      refine w_bipush dX38_layNumber_10 (v := 8) (by decide) ?_
      refine w_iload_n dX38_layNumber_12 rfl rfl ?_
      refine w_imul dX38_layNumber_13 ?_
      refine w_ishr dX38_layNumber_14 ?_
      obtain ⟨_, b2, hf⟩ := Option.bind_eq_some_iff.mp hf
      refine x_cnV hf (e_stV (Yc := YX38_lay) (ci := 37) (av := [.int (l1 >>> (((8 : Int32) * l3) &&& 31))]) (st := []) dX38_layNumber_15 q5067 mX38_lay rfl (k_ok_some b2).1 (k_ok_some b2).2) mX38_lay.2.2.1 mX38_lay.2.2.2.2.1 (Nat.le_of_ble_eq_true rfl) (Nat.le_of_ble_eq_true rfl) (fun q hq => pX38_lay (by omega) hq) (fun q3 hf => ?_)
      refine w_iinc dX38_layNumber_18 (v := (l3 + (-1 : Int32))) rfl rfl (by decide) (ls' := [some (.ref l0), some (.int l1), none, some (.int (l3 + (-1 : Int32)))]) rfl ?_
      refine w_goto 4 dX38_layNumber_21 (by decide) ?_
      exact (ih _ _ _ _ _ hf).to ⟨rfl, rfl, rfl, trivial⟩
def fX38_layNumber (N : Nat) (this : Nat) (p0 : Int32) (p1 : Int32) (h : eH) : Option (Unit × eH) :=
  fX38_layNumber_b4 N N this p0 (p1 - (1 : Int32)) h
theorem pX38_layNumber {w : eW} {d : Nat} (hd : 1 ≤ d) {N : Nat} {this : Nat} {p0 : Int32} {p1 : Int32} {h : eH} {q} (hf : fX38_layNumber N this p0 p1 h = some q) : wm w d YX38_layNumber [.ref this, .int p0, .int p1] h (e_is (e_rn c_V q)) := by
  obtain ⟨d, rfl⟩ : ∃ e, d = e + 1 := ⟨d - 1, by omega⟩
  show wp w (d + 1) YX38_layNumber 0 [some (.ref this), some (.int p0), some (.int p1), none] [] h _
  unfold fX38_layNumber at hf
  refine w_iload_n dX38_layNumber_0 rfl rfl ?_
  refine w_iconst dX38_layNumber_1 (v := 1) (by decide) ?_
  refine w_isub dX38_layNumber_2 ?_
  refine w_istore_n dX38_layNumber_3 rfl (by decide) (ls' := [some (.ref this), some (.int p0), some (.int p1), some (.int (p1 - (1 : Int32)))]) rfl ?_
  exact (pX38_layNumber_b4 hd N _ _ _ _ _ hf).to ⟨rfl, rfl, rfl, trivial⟩
abbrev cX38_bytesOf : ByteArray := prog_39_method_9_code
def yX38_bytesOf : MethodName := ⟨RX38, "bytesOf", "(I)I"⟩
def YX38_bytesOf : eY := (yX38_bytesOf, cX38_bytesOf, 1, (Option.some FieldType.int), [])
theorem mX38_bytesOf : e_ms YX38_bytesOf 1 := ⟨q5616, q469, q5617, by decide, by decide +kernel, (e_sig (by decide +kernel))⟩
theorem dX38_bytesOf_0 : decode cX38_bytesOf 0 = .ok (.iload_n 0, 1) := dc_26 (by decide +kernel)
theorem dX38_bytesOf_1 : decode cX38_bytesOf 1 = .ok (.bipush (-128), 2) := dc_16 (a := 128) (v := -128) (by decide +kernel)
theorem dX38_bytesOf_3 : decode cX38_bytesOf 3 = .ok (.if_icmp .lt 14, 3) := dc_161 (a := 0) (b := 14) (v := 14) (by decide +kernel)
theorem dX38_bytesOf_6 : decode cX38_bytesOf 6 = .ok (.iload_n 0, 1) := dc_26 (by decide +kernel)
theorem dX38_bytesOf_7 : decode cX38_bytesOf 7 = .ok (.sipush 128, 3) := dc_17 (a := 0) (b := 128) (v := 128) (by decide +kernel)
theorem dX38_bytesOf_10 : decode cX38_bytesOf 10 = .ok (.if_icmp .ge 7, 3) := dc_162 (a := 0) (b := 7) (v := 7) (by decide +kernel)
theorem dX38_bytesOf_13 : decode cX38_bytesOf 13 = .ok (.iconst 1, 1) := dc_4 (by decide +kernel)
theorem dX38_bytesOf_14 : decode cX38_bytesOf 14 = .ok (.goto 37, 3) := dc_167 (a := 0) (b := 37) (v := 37) (by decide +kernel)
theorem dX38_bytesOf_17 : decode cX38_bytesOf 17 = .ok (.iload_n 0, 1) := dc_26 (by decide +kernel)
theorem dX38_bytesOf_18 : decode cX38_bytesOf 18 = .ok (.sipush (-32768), 3) := dc_17 (a := 128) (b := 0) (v := -32768) (by decide +kernel)
theorem dX38_bytesOf_21 : decode cX38_bytesOf 21 = .ok (.if_icmp .lt 13, 3) := dc_161 (a := 0) (b := 13) (v := 13) (by decide +kernel)
theorem dX38_bytesOf_24 : decode cX38_bytesOf 24 = .ok (.iload_n 0, 1) := dc_26 (by decide +kernel)
theorem dX38_bytesOf_25 : decode cX38_bytesOf 25 = .ok (.ldc 91, 2) := dc_18 (a := 91) (by decide +kernel)
theorem dX38_bytesOf_27 : decode cX38_bytesOf 27 = .ok (.if_icmp .ge 7, 3) := dc_162 (a := 0) (b := 7) (v := 7) (by decide +kernel)
theorem dX38_bytesOf_30 : decode cX38_bytesOf 30 = .ok (.iconst 2, 1) := dc_5 (by decide +kernel)
theorem dX38_bytesOf_31 : decode cX38_bytesOf 31 = .ok (.goto 20, 3) := dc_167 (a := 0) (b := 20) (v := 20) (by decide +kernel)
theorem dX38_bytesOf_34 : decode cX38_bytesOf 34 = .ok (.iload_n 0, 1) := dc_26 (by decide +kernel)
theorem dX38_bytesOf_35 : decode cX38_bytesOf 35 = .ok (.ldc 92, 2) := dc_18 (a := 92) (by decide +kernel)
theorem dX38_bytesOf_37 : decode cX38_bytesOf 37 = .ok (.if_icmp .lt 13, 3) := dc_161 (a := 0) (b := 13) (v := 13) (by decide +kernel)
theorem dX38_bytesOf_40 : decode cX38_bytesOf 40 = .ok (.iload_n 0, 1) := dc_26 (by decide +kernel)
theorem dX38_bytesOf_41 : decode cX38_bytesOf 41 = .ok (.ldc 93, 2) := dc_18 (a := 93) (by decide +kernel)
theorem dX38_bytesOf_43 : decode cX38_bytesOf 43 = .ok (.if_icmp .ge 7, 3) := dc_162 (a := 0) (b := 7) (v := 7) (by decide +kernel)
theorem dX38_bytesOf_46 : decode cX38_bytesOf 46 = .ok (.iconst 3, 1) := dc_6 (by decide +kernel)
theorem dX38_bytesOf_47 : decode cX38_bytesOf 47 = .ok (.goto 4, 3) := dc_167 (a := 0) (b := 4) (v := 4) (by decide +kernel)
theorem dX38_bytesOf_50 : decode cX38_bytesOf 50 = .ok (.iconst 4, 1) := dc_7 (by decide +kernel)
theorem dX38_bytesOf_51 : decode cX38_bytesOf 51 = .ok (.ireturn, 1) := dc_172 (by decide +kernel)
def fX38_bytesOf_b51 (s0 : Int32) (h : eH) : Option (Int32 × eH) :=
  some (s0, h)
theorem pX38_bytesOf_b51 {w : eW} {d : Nat} (hd : 0 ≤ d) {s0 : Int32} {h : eH} {q} (hf : fX38_bytesOf_b51 s0 h = some q) : wp w d YX38_bytesOf 51 [none] [.int s0] h (e_is (e_rn c_I q)) := by
  unfold fX38_bytesOf_b51 at hf
  cases hf
  exact w_iret dX38_bytesOf_51 rfl rfl rfl
def fX38_bytesOf_b50  (h : eH) : Option (Int32 × eH) :=
  fX38_bytesOf_b51 (4 : Int32) h
theorem pX38_bytesOf_b50 {w : eW} {d : Nat} (hd : 0 ≤ d)  {h : eH} {q} (hf : fX38_bytesOf_b50  h = some q) : wp w d YX38_bytesOf 50 [none] [] h (e_is (e_rn c_I q)) := by
  unfold fX38_bytesOf_b50 at hf
  refine w_iconst dX38_bytesOf_50 (v := 4) (by decide) ?_
  exact (pX38_bytesOf_b51 hd hf).to trivial
def fX38_bytesOf_b34 (l0 : Int32) (h : eH) : Option (Int32 × eH) :=
  if l0 < (-8388608 : Int32) then
    fX38_bytesOf_b50 h
  else
    if (8388608 : Int32) ≤ l0 then
      fX38_bytesOf_b50 h
    else
      fX38_bytesOf_b51 (3 : Int32) h
theorem pX38_bytesOf_b34 {w : eW} {d : Nat} (hd : 0 ≤ d) {l0 : Int32} {h : eH} {q} (hf : fX38_bytesOf_b34 l0 h = some q) : wp w d YX38_bytesOf 34 [some (.int l0)] [] h (e_is (e_rn c_I q)) := by
  unfold fX38_bytesOf_b34 at hf
  refine w_iload_n dX38_bytesOf_34 rfl rfl ?_
  refine w_ldc dX38_bytesOf_35 q5619 ?_
  refine w_icmp_lt 50 dX38_bytesOf_37 (by decide) (fun c1 => ?_) (fun c1 => ?_)
  · replace hf := (if_pos (show l0 < (-8388608 : Int32) from c1)).symm.trans hf
    exact (pX38_bytesOf_b50 hd hf).to trivial
  · replace hf := (if_neg (show ¬ (l0 < (-8388608 : Int32)) from c1)).symm.trans hf
    refine w_iload_n dX38_bytesOf_40 rfl rfl ?_
    refine w_ldc dX38_bytesOf_41 q5620 ?_
    refine w_icmp_ge 50 dX38_bytesOf_43 (by decide) (fun c2 => ?_) (fun c2 => ?_)
    · replace hf := (if_pos (show (8388608 : Int32) ≤ l0 from c2)).symm.trans hf
      exact (pX38_bytesOf_b50 hd hf).to trivial
    · replace hf := (if_neg (show ¬ ((8388608 : Int32) ≤ l0) from c2)).symm.trans hf
      refine w_iconst dX38_bytesOf_46 (v := 3) (by decide) ?_
      refine w_goto 51 dX38_bytesOf_47 (by decide) ?_
      exact (pX38_bytesOf_b51 hd hf).to trivial
def fX38_bytesOf_b17 (l0 : Int32) (h : eH) : Option (Int32 × eH) :=
  if l0 < (-32768 : Int32) then
    fX38_bytesOf_b34 l0 h
  else
    if (32768 : Int32) ≤ l0 then
      fX38_bytesOf_b34 l0 h
    else
      fX38_bytesOf_b51 (2 : Int32) h
theorem pX38_bytesOf_b17 {w : eW} {d : Nat} (hd : 0 ≤ d) {l0 : Int32} {h : eH} {q} (hf : fX38_bytesOf_b17 l0 h = some q) : wp w d YX38_bytesOf 17 [some (.int l0)] [] h (e_is (e_rn c_I q)) := by
  unfold fX38_bytesOf_b17 at hf
  refine w_iload_n dX38_bytesOf_17 rfl rfl ?_
  refine w_sipush dX38_bytesOf_18 (v := -32768) (by decide) ?_
  refine w_icmp_lt 34 dX38_bytesOf_21 (by decide) (fun c1 => ?_) (fun c1 => ?_)
  · replace hf := (if_pos (show l0 < (-32768 : Int32) from c1)).symm.trans hf
    exact (pX38_bytesOf_b34 hd hf).to ⟨rfl, trivial⟩
  · replace hf := (if_neg (show ¬ (l0 < (-32768 : Int32)) from c1)).symm.trans hf
    refine w_iload_n dX38_bytesOf_24 rfl rfl ?_
    refine w_ldc dX38_bytesOf_25 q5618 ?_
    refine w_icmp_ge 34 dX38_bytesOf_27 (by decide) (fun c2 => ?_) (fun c2 => ?_)
    · replace hf := (if_pos (show (32768 : Int32) ≤ l0 from c2)).symm.trans hf
      exact (pX38_bytesOf_b34 hd hf).to ⟨rfl, trivial⟩
    · replace hf := (if_neg (show ¬ ((32768 : Int32) ≤ l0) from c2)).symm.trans hf
      refine w_iconst dX38_bytesOf_30 (v := 2) (by decide) ?_
      refine w_goto 51 dX38_bytesOf_31 (by decide) ?_
      exact (pX38_bytesOf_b51 hd hf).to trivial
def fX38_bytesOf (p0 : Int32) (h : eH) : Option (Int32 × eH) :=
  if p0 < (-128 : Int32) then
    fX38_bytesOf_b17 p0 h
  else
    if (128 : Int32) ≤ p0 then
      fX38_bytesOf_b17 p0 h
    else
      fX38_bytesOf_b51 (1 : Int32) h
theorem pX38_bytesOf {w : eW} {d : Nat} (hd : 0 ≤ d) {p0 : Int32} {h : eH} {q} (hf : fX38_bytesOf p0 h = some q) : wm w d YX38_bytesOf [.int p0] h (e_is (e_rn c_I q)) := by
  show wp w d YX38_bytesOf 0 [some (.int p0)] [] h _
  unfold fX38_bytesOf at hf
  refine w_iload_n dX38_bytesOf_0 rfl rfl ?_
  refine w_bipush dX38_bytesOf_1 (v := -128) (by decide) ?_
  refine w_icmp_lt 17 dX38_bytesOf_3 (by decide) (fun c1 => ?_) (fun c1 => ?_)
  · replace hf := (if_pos (show p0 < (-128 : Int32) from c1)).symm.trans hf
    exact (pX38_bytesOf_b17 hd hf).to ⟨rfl, trivial⟩
  · replace hf := (if_neg (show ¬ (p0 < (-128 : Int32)) from c1)).symm.trans hf
    refine w_iload_n dX38_bytesOf_6 rfl rfl ?_
    refine w_sipush dX38_bytesOf_7 (v := 128) (by decide) ?_
    refine w_icmp_ge 17 dX38_bytesOf_10 (by decide) (fun c2 => ?_) (fun c2 => ?_)
    · replace hf := (if_pos (show (128 : Int32) ≤ p0 from c2)).symm.trans hf
      exact (pX38_bytesOf_b17 hd hf).to ⟨rfl, trivial⟩
    · replace hf := (if_neg (show ¬ ((128 : Int32) ≤ p0) from c2)).symm.trans hf
      refine w_iconst dX38_bytesOf_13 (v := 1) (by decide) ?_
      refine w_goto 51 dX38_bytesOf_14 (by decide) ?_
      exact (pX38_bytesOf_b51 hd hf).to trivial
abbrev cX38_comes : ByteArray := prog_39_method_8_code
def yX38_comes : MethodName := ⟨RX38, "comes", "([III)Z"⟩
def YX38_comes : eY := (yX38_comes, cX38_comes, 6, (Option.some FieldType.boolean), [])
theorem mX38_comes : e_mv YX38_comes RX38 3 := ⟨q5623, qs343, q5624, by decide, by decide +kernel, (e_sig (by decide +kernel))⟩
theorem dX38_comes_0 : decode cX38_comes 0 = .ok (.iconst 0, 1) := dc_3 (by decide +kernel)
theorem dX38_comes_1 : decode cX38_comes 1 = .ok (.istore 4, 2) := dc_54 (a := 4) (by decide +kernel)
theorem dX38_comes_3 : decode cX38_comes 3 = .ok (.iload_n 2, 1) := dc_28 (by decide +kernel)
theorem dX38_comes_4 : decode cX38_comes 4 = .ok (.iconst 1, 1) := dc_4 (by decide +kernel)
theorem dX38_comes_5 : decode cX38_comes 5 = .ok (.iadd, 1) := dc_96 (by decide +kernel)
theorem dX38_comes_6 : decode cX38_comes 6 = .ok (.istore 5, 2) := dc_54 (a := 5) (by decide +kernel)
theorem dX38_comes_8 : decode cX38_comes 8 = .ok (.iload 5, 2) := dc_21 (a := 5) (by decide +kernel)
theorem dX38_comes_10 : decode cX38_comes 10 = .ok (.aload_n 0, 1) := dc_42 (by decide +kernel)
theorem dX38_comes_11 : decode cX38_comes 11 = .ok (.getfield 88, 3) := dc_180 (a := 0) (b := 88) (n := 88) (by decide +kernel)
theorem dX38_comes_14 : decode cX38_comes 14 = .ok (.if_icmp .ge 29, 3) := dc_162 (a := 0) (b := 29) (v := 29) (by decide +kernel)
theorem dX38_comes_17 : decode cX38_comes 17 = .ok (.iload 4, 2) := dc_21 (a := 4) (by decide +kernel)
theorem dX38_comes_19 : decode cX38_comes 19 = .ok (.ifCond .ne 11, 3) := dc_154 (a := 0) (b := 11) (v := 11) (by decide +kernel)
theorem dX38_comes_22 : decode cX38_comes 22 = .ok (.aload_n 1, 1) := dc_43 (by decide +kernel)
theorem dX38_comes_23 : decode cX38_comes 23 = .ok (.iload 5, 2) := dc_21 (a := 5) (by decide +kernel)
theorem dX38_comes_25 : decode cX38_comes 25 = .ok (.iaload, 1) := dc_46 (by decide +kernel)
theorem dX38_comes_26 : decode cX38_comes 26 = .ok (.iload_n 3, 1) := dc_29 (by decide +kernel)
theorem dX38_comes_27 : decode cX38_comes 27 = .ok (.if_icmp .ne 7, 3) := dc_160 (a := 0) (b := 7) (v := 7) (by decide +kernel)
theorem dX38_comes_30 : decode cX38_comes 30 = .ok (.iconst 1, 1) := dc_4 (by decide +kernel)
theorem dX38_comes_31 : decode cX38_comes 31 = .ok (.goto 4, 3) := dc_167 (a := 0) (b := 4) (v := 4) (by decide +kernel)
theorem dX38_comes_34 : decode cX38_comes 34 = .ok (.iconst 0, 1) := dc_3 (by decide +kernel)
theorem dX38_comes_35 : decode cX38_comes 35 = .ok (.istore 4, 2) := dc_54 (a := 4) (by decide +kernel)
theorem dX38_comes_37 : decode cX38_comes 37 = .ok (.iinc 5 1, 3) := dc_132 (a := 5) (b := 1) (v := 1) (by decide +kernel)
theorem dX38_comes_40 : decode cX38_comes 40 = .ok (.goto (-32), 3) := dc_167 (a := 255) (b := 224) (v := -32) (by decide +kernel)
theorem dX38_comes_43 : decode cX38_comes 43 = .ok (.iload 4, 2) := dc_21 (a := 4) (by decide +kernel)
theorem dX38_comes_45 : decode cX38_comes 45 = .ok (.ireturn, 1) := dc_172 (by decide +kernel)
def fX38_comes_b35 (N : Nat) (k8 : Nat → Nat → Int32 → Int32 → Int32 → eH → Option (Int32 × eH)) (l0 : Nat) (l1 : Nat) (l3 : Int32) (l5 : Int32) (s0 : Int32) (h : eH) : Option (Int32 × eH) :=
  k8 l0 l1 l3 s0 (l5 + (1 : Int32)) h
theorem pX38_comes_b35 {w : eW} {d : Nat} (hd : 0 ≤ d) {N : Nat} {k8 : Nat → Nat → Int32 → Int32 → Int32 → eH → Option (Int32 × eH)} (hk8 : ∀ l0 l1 l3 l4 l5 h q, k8 l0 l1 l3 l4 l5 h = some q → wp w d YX38_comes 8 [some (.ref l0), some (.ref l1), none, some (.int l3), some (.int l4), some (.int l5)] [] h (e_is (e_rn c_I q))) {l0 : Nat} {l1 : Nat} {l3 : Int32} {l5 : Int32} {s0 : Int32} {h : eH} {q} (hf : fX38_comes_b35 N k8 l0 l1 l3 l5 s0 h = some q) : wp w d YX38_comes 35 [some (.ref l0), some (.ref l1), none, some (.int l3), none, some (.int l5)] [.int s0] h (e_is (e_rn c_I q)) := by
  unfold fX38_comes_b35 at hf
  refine w_istore dX38_comes_35 (by decide) (ls' := [some (.ref l0), some (.ref l1), none, some (.int l3), some (.int s0), some (.int l5)]) rfl ?_
  refine w_iinc dX38_comes_37 (v := (l5 + (1 : Int32))) rfl rfl (by decide) (ls' := [some (.ref l0), some (.ref l1), none, some (.int l3), some (.int s0), some (.int (l5 + (1 : Int32)))]) rfl ?_
  refine w_goto 8 dX38_comes_40 (by decide) ?_
  exact (hk8 _ _ _ _ _ _ _ hf).to ⟨rfl, rfl, rfl, rfl, rfl, trivial⟩
def fX38_comes_b30 (N : Nat) (k8 : Nat → Nat → Int32 → Int32 → Int32 → eH → Option (Int32 × eH)) (l0 : Nat) (l1 : Nat) (l3 : Int32) (l5 : Int32) (h : eH) : Option (Int32 × eH) :=
  fX38_comes_b35 N k8 l0 l1 l3 l5 (1 : Int32) h
theorem pX38_comes_b30 {w : eW} {d : Nat} (hd : 0 ≤ d) {N : Nat} {k8 : Nat → Nat → Int32 → Int32 → Int32 → eH → Option (Int32 × eH)} (hk8 : ∀ l0 l1 l3 l4 l5 h q, k8 l0 l1 l3 l4 l5 h = some q → wp w d YX38_comes 8 [some (.ref l0), some (.ref l1), none, some (.int l3), some (.int l4), some (.int l5)] [] h (e_is (e_rn c_I q))) {l0 : Nat} {l1 : Nat} {l3 : Int32} {l5 : Int32} {h : eH} {q} (hf : fX38_comes_b30 N k8 l0 l1 l3 l5 h = some q) : wp w d YX38_comes 30 [some (.ref l0), some (.ref l1), none, some (.int l3), none, some (.int l5)] [] h (e_is (e_rn c_I q)) := by
  unfold fX38_comes_b30 at hf
  refine w_iconst dX38_comes_30 (v := 1) (by decide) ?_
  refine w_goto 35 dX38_comes_31 (by decide) ?_
  exact (pX38_comes_b35 hd hk8 hf).to ⟨rfl, rfl, rfl, rfl, trivial⟩
def fX38_comes_b8 (N : Nat) : Nat → Nat → Nat → Int32 → Int32 → Int32 → eH → Option (Int32 × eH)
  | 0, _, _, _, _, _, _ => none
  | n + 1, l0, l1, l3, l4, l5, h =>
    (g_I 37 h l0 13).bind fun x1 =>
    if x1 ≤ l5 then
      z_r l4 (l4, h)
    else
      if ¬ l4 = 0 then
        fX38_comes_b30 N (fX38_comes_b8 N n) l0 l1 l3 l5 h
      else
        (r_I 100 h l1 l5).bind fun x6 =>
        if ¬ x6 = l3 then
          fX38_comes_b35 N (fX38_comes_b8 N n) l0 l1 l3 l5 (0 : Int32) h
        else
          fX38_comes_b30 N (fX38_comes_b8 N n) l0 l1 l3 l5 h
theorem pX38_comes_b8 {w : eW} {d : Nat} (hd : 0 ≤ d) {N : Nat} : ∀ (n : Nat) l0 l1 l3 l4 l5 h q, fX38_comes_b8 N n l0 l1 l3 l4 l5 h = some q → wp w d YX38_comes 8 [some (.ref l0), some (.ref l1), none, some (.int l3), some (.int l4), some (.int l5)] [] h (e_is (e_rn c_I q)) := by
  intro n
  induction n with
  | zero => intro l0 l1 l3 l4 l5 h q hf; simp [fX38_comes_b8] at hf
  | succ n ih =>
    intro l0 l1 l3 l4 l5 h q hf
    rw [fX38_comes_b8] at hf
    refine w_iload dX38_comes_8 rfl ?_
    refine w_aload_n dX38_comes_10 rfl rfl ?_
    obtain ⟨x1, b2, hf⟩ := Option.bind_eq_some_iff.mp hf
    refine GX38_88 b2 dX38_comes_11 rfl ?_
    refine w_icmp_ge 43 dX38_comes_14 (by decide) (fun c3 => ?_) (fun c3 => ?_)
    · replace hf := (if_pos (show x1 ≤ l5 from c3)).symm.trans hf
      refine w_iload dX38_comes_43 rfl ?_
      obtain ⟨b4, rfl⟩ := z_r_some hf
      exact w_iret dX38_comes_45 rfl b4 rfl
    · replace hf := (if_neg (show ¬ (x1 ≤ l5) from c3)).symm.trans hf
      refine w_iload dX38_comes_17 rfl ?_
      refine w_if_ne 30 dX38_comes_19 (by decide) (fun c5 => ?_) (fun c5 => ?_)
      · replace hf := (if_pos (show ¬ l4 = 0 from c5)).symm.trans hf
        exact (pX38_comes_b30 hd ih hf).to ⟨rfl, rfl, rfl, rfl, trivial⟩
      · replace hf := (if_neg (show ¬ (¬ l4 = 0) from (fun z => z c5))).symm.trans hf
        refine w_aload_n dX38_comes_22 rfl rfl ?_
        refine w_iload dX38_comes_23 rfl ?_
        obtain ⟨x6, b7, hf⟩ := Option.bind_eq_some_iff.mp hf
        refine x_rI b7 dX38_comes_25 ?_
        refine w_iload_n dX38_comes_26 rfl rfl ?_
        refine w_icmp_ne 34 dX38_comes_27 (by decide) (fun c8 => ?_) (fun c8 => ?_)
        · replace hf := (if_pos (show ¬ x6 = l3 from c8)).symm.trans hf
          refine w_iconst dX38_comes_34 (v := 0) (by decide) ?_
          exact (pX38_comes_b35 hd ih hf).to ⟨rfl, rfl, rfl, rfl, trivial⟩
        · replace hf := (if_neg (show ¬ (¬ x6 = l3) from (fun z => z c8))).symm.trans hf
          exact (pX38_comes_b30 hd ih hf).to ⟨rfl, rfl, rfl, rfl, trivial⟩
def fX38_comes (N : Nat) (this : Nat) (p0 : Nat) (p1 : Int32) (p2 : Int32) (h : eH) : Option (Int32 × eH) :=
  fX38_comes_b8 N N this p0 p2 (0 : Int32) (p1 + (1 : Int32)) h
theorem pX38_comes {w : eW} {d : Nat} (hd : 0 ≤ d) {N : Nat} {this : Nat} {p0 : Nat} {p1 : Int32} {p2 : Int32} {h : eH} {q} (hf : fX38_comes N this p0 p1 p2 h = some q) : wm w d YX38_comes [.ref this, .ref p0, .int p1, .int p2] h (e_is (e_rn c_I q)) := by
  show wp w d YX38_comes 0 [some (.ref this), some (.ref p0), some (.int p1), some (.int p2), none, none] [] h _
  unfold fX38_comes at hf
  refine w_iconst dX38_comes_0 (v := 0) (by decide) ?_
  refine w_istore dX38_comes_1 (by decide) (ls' := [some (.ref this), some (.ref p0), some (.int p1), some (.int p2), some (.int (0 : Int32)), none]) rfl ?_
  refine w_iload_n dX38_comes_3 rfl rfl ?_
  refine w_iconst dX38_comes_4 (v := 1) (by decide) ?_
  refine w_iadd dX38_comes_5 ?_
  refine w_istore dX38_comes_6 (by decide) (ls' := [some (.ref this), some (.ref p0), some (.int p1), some (.int p2), some (.int (0 : Int32)), some (.int (p1 + (1 : Int32)))]) rfl ?_
  exact (pX38_comes_b8 hd N _ _ _ _ _ _ _ hf).to ⟨rfl, rfl, rfl, rfl, rfl, trivial⟩
