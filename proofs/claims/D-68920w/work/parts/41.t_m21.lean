set_option maxRecDepth 100000
set_option maxHeartbeats 4000000
theorem q4619 : (Jvm.Cond.fieldLink "TypeHouseModel" (674 : Nat) "TypeHouseModel" "above" "J") ∈ lw_all := lw_g (lw_at lw_m18 114 rfl) rfl
theorem q4620 : (Jvm.Cond.fieldLink "TypeHouseModel" (678 : Nat) "TypeHouseModel" "below" "J") ∈ lw_all := lw_g (lw_at lw_m18 115 rfl) rfl
theorem q4621 : (Jvm.Cond.fieldLink "TypeHouseModel" (757 : Nat) "TypeHouseModel" "stretchOrder" "I") ∈ lw_all := lw_g (lw_at lw_m18 116 rfl) rfl
theorem q5201 : (Jvm.Cond.methodLink "TypeHouseModel" (557 : Nat) ({ cls := "TypeHouseModel", name := "mean", desc := "(IIZ)V" } : Jvm.MethodName)) ∈ lw_all := lw_g (lw_at lw_m20 216 rfl) rfl
theorem q5203 : (Jvm.Cond.instanceMethod ({ cls := "TypeHouseModel", name := "mean", desc := "(IIZ)V" } : Jvm.MethodName)) ∈ lw_all := lw_g (lw_at lw_m20 218 rfl) rfl
theorem q5204 : (Jvm.Cond.code ({ cls := "TypeHouseModel", name := "mean", desc := "(IIZ)V" } : Jvm.MethodName) prog_37_method_37_code (4 : Nat) (Option.none : Option Jvm.ClassFile.FieldType)) ∈ lw_all := lw_g (lw_at lw_m20 219 rfl) rfl
theorem q5225 : (Jvm.Cond.methodLink "TypeHouseModel" (660 : Nat) ({ cls := "TypeHouseModel", name := "signs", desc := "()V" } : Jvm.MethodName)) ∈ lw_all := lw_g (lw_at lw_m21 0 rfl) rfl
theorem q5232 : (Jvm.Cond.methodLink "TypeHouseModel" (643 : Nat) ({ cls := "TypeHouseModel", name := "isDigit", desc := "(I)Z" } : Jvm.MethodName)) ∈ lw_all := lw_g (lw_at lw_m21 7 rfl) rfl
theorem q5239 : (Jvm.Cond.constantLong "TypeHouseModel" (562 : Nat) (10 : Int64)) ∈ lw_all := lw_g (lw_at lw_m21 14 rfl) rfl
theorem q5240 : (Jvm.Cond.constantLong "TypeHouseModel" (560 : Nat) (48 : Int64)) ∈ lw_all := lw_g (lw_at lw_m21 15 rfl) rfl
theorem q5241 : (Jvm.Cond.constantLong "TypeHouseModel" (646 : Nat) (2147483647 : Int64)) ∈ lw_all := lw_g (lw_at lw_m21 16 rfl) rfl
theorem q5242 : (Jvm.Cond.methodLink "TypeHouseModel" (666 : Nat) ({ cls := "TypeHouseModel", name := "quoted", desc := "()I" } : Jvm.MethodName)) ∈ lw_all := lw_g (lw_at lw_m21 17 rfl) rfl
theorem q5244 : (Jvm.Cond.instanceMethod ({ cls := "TypeHouseModel", name := "quoted", desc := "()I" } : Jvm.MethodName)) ∈ lw_all := lw_g (lw_at lw_m21 19 rfl) rfl
theorem q5245 : (Jvm.Cond.code ({ cls := "TypeHouseModel", name := "quoted", desc := "()I" } : Jvm.MethodName) prog_37_method_81_code (5 : Nat) (Option.some Jvm.ClassFile.FieldType.int)) ∈ lw_all := lw_g (lw_at lw_m21 20 rfl) rfl
theorem q5246 : (Jvm.Cond.methodLink "TypeHouseModel" (648 : Nat) ({ cls := "TypeHouseModel", name := "dropSpace", desc := "()V" } : Jvm.MethodName)) ∈ lw_all := lw_g (lw_at lw_m21 21 rfl) rfl
theorem q5250 : (Jvm.Cond.methodLink "TypeHouseModel" (536 : Nat) ({ cls := "TypeHouseModel", name := "hasValue", desc := "(I)Z" } : Jvm.MethodName)) ∈ lw_all := lw_g (lw_at lw_m21 25 rfl) rfl
theorem q5252 : (Jvm.Cond.instanceMethod ({ cls := "TypeHouseModel", name := "hasValue", desc := "(I)Z" } : Jvm.MethodName)) ∈ lw_all := lw_g (lw_at lw_m21 27 rfl) rfl
theorem q5253 : (Jvm.Cond.code ({ cls := "TypeHouseModel", name := "hasValue", desc := "(I)Z" } : Jvm.MethodName) prog_37_method_73_code (3 : Nat) (Option.some Jvm.ClassFile.FieldType.boolean)) ∈ lw_all := lw_g (lw_at lw_m21 28 rfl) rfl
theorem q5258 : (Jvm.Cond.methodLink "TypeHouseModel" (634 : Nat) ({ cls := "TypeHouseModel", name := "isCounter", desc := "(I)Z" } : Jvm.MethodName)) ∈ lw_all := lw_g (lw_at lw_m21 33 rfl) rfl
theorem q5259 : (Jvm.Cond.static ({ cls := "TypeHouseModel", name := "isCounter", desc := "(I)Z" } : Jvm.MethodName)) ∈ lw_all := lw_g (lw_at lw_m21 34 rfl) rfl
theorem q5260 : (Jvm.Cond.code ({ cls := "TypeHouseModel", name := "isCounter", desc := "(I)Z" } : Jvm.MethodName) prog_37_method_66_code (1 : Nat) (Option.some Jvm.ClassFile.FieldType.boolean)) ∈ lw_all := lw_g (lw_at lw_m21 35 rfl) rfl
theorem q5261 : (Jvm.Cond.methodLink "TypeHouseModel" (637 : Nat) ({ cls := "TypeHouseModel", name := "isNumber", desc := "(I)Z" } : Jvm.MethodName)) ∈ lw_all := lw_g (lw_at lw_m21 36 rfl) rfl
theorem q5263 : (Jvm.Cond.instanceMethod ({ cls := "TypeHouseModel", name := "isNumber", desc := "(I)Z" } : Jvm.MethodName)) ∈ lw_all := lw_g (lw_at lw_m21 38 rfl) rfl
theorem q5264 : (Jvm.Cond.code ({ cls := "TypeHouseModel", name := "isNumber", desc := "(I)Z" } : Jvm.MethodName) prog_37_method_72_code (2 : Nat) (Option.some Jvm.ClassFile.FieldType.boolean)) ∈ lw_all := lw_g (lw_at lw_m21 39 rfl) rfl
theorem q5265 : (Jvm.Cond.constant "TypeHouseModel" (606 : Nat) (3000000 : Int32)) ∈ lw_all := lw_g (lw_at lw_m21 40 rfl) rfl
theorem q5266 : (Jvm.Cond.constant "TypeHouseModel" (633 : Nat) (4000000 : Int32)) ∈ lw_all := lw_g (lw_at lw_m21 41 rfl) rfl
theorem q5267 : (Jvm.Cond.methodLink "TypeHouseModel" (539 : Nat) ({ cls := "TypeHouseModel", name := "value", desc := "(I)I" } : Jvm.MethodName)) ∈ lw_all := lw_g (lw_at lw_m21 42 rfl) rfl
theorem q5269 : (Jvm.Cond.instanceMethod ({ cls := "TypeHouseModel", name := "value", desc := "(I)I" } : Jvm.MethodName)) ∈ lw_all := lw_g (lw_at lw_m21 44 rfl) rfl
theorem q5270 : (Jvm.Cond.code ({ cls := "TypeHouseModel", name := "value", desc := "(I)I" } : Jvm.MethodName) prog_37_method_76_code (3 : Nat) (Option.some Jvm.ClassFile.FieldType.int)) ∈ lw_all := lw_g (lw_at lw_m21 45 rfl) rfl
theorem q5279 : (Jvm.Cond.methodLink "TypeHouseModel" (542 : Nat) ({ cls := "TypeHouseModel", name := "hasLength", desc := "(I)Z" } : Jvm.MethodName)) ∈ lw_all := lw_g (lw_at lw_m21 54 rfl) rfl
theorem q5289 : (Jvm.Cond.methodLink "TypeHouseModel" (545 : Nat) ({ cls := "TypeHouseModel", name := "hasGlue", desc := "(I)Z" } : Jvm.MethodName)) ∈ lw_all := lw_g (lw_at lw_m21 64 rfl) rfl
theorem q5296 : (Jvm.Cond.methodLink "TypeHouseModel" (548 : Nat) ({ cls := "TypeHouseModel", name := "lengthOf", desc := "(I)I" } : Jvm.MethodName)) ∈ lw_all := lw_g (lw_at lw_m21 71 rfl) rfl
theorem q5327 : (Jvm.Cond.instanceMethod ({ cls := "TypeHouseModel", name := "condition", desc := "(I)V" } : Jvm.MethodName)) ∈ lw_all := lw_g (lw_at lw_m21 102 rfl) rfl
theorem q5328 : (Jvm.Cond.code ({ cls := "TypeHouseModel", name := "condition", desc := "(I)V" } : Jvm.MethodName) prog_37_method_57_code (9 : Nat) (Option.none : Option Jvm.ClassFile.FieldType)) ∈ lw_all := lw_g (lw_at lw_m21 103 rfl) rfl
theorem q5329 : (Jvm.Cond.methodLink "TypeHouseModel" (584 : Nat) ({ cls := "TypeHouseModel", name := "compareSizes", desc := "()Z" } : Jvm.MethodName)) ∈ lw_all := lw_g (lw_at lw_m21 104 rfl) rfl
theorem q5331 : (Jvm.Cond.instanceMethod ({ cls := "TypeHouseModel", name := "compareSizes", desc := "()Z" } : Jvm.MethodName)) ∈ lw_all := lw_g (lw_at lw_m21 106 rfl) rfl
theorem q5332 : (Jvm.Cond.code ({ cls := "TypeHouseModel", name := "compareSizes", desc := "()Z" } : Jvm.MethodName) prog_37_method_61_code (6 : Nat) (Option.some Jvm.ClassFile.FieldType.boolean)) ∈ lw_all := lw_g (lw_at lw_m21 107 rfl) rfl
theorem q5333 : (Jvm.Cond.methodLink "TypeHouseModel" (614 : Nat) ({ cls := "TypeHouseModel", name := "dimension", desc := "()I" } : Jvm.MethodName)) ∈ lw_all := lw_g (lw_at lw_m21 108 rfl) rfl
theorem q5335 : (Jvm.Cond.instanceMethod ({ cls := "TypeHouseModel", name := "dimension", desc := "()I" } : Jvm.MethodName)) ∈ lw_all := lw_g (lw_at lw_m21 110 rfl) rfl
theorem q5336 : (Jvm.Cond.code ({ cls := "TypeHouseModel", name := "dimension", desc := "()I" } : Jvm.MethodName) prog_37_method_96_code (1 : Nat) (Option.some Jvm.ClassFile.FieldType.int)) ∈ lw_all := lw_g (lw_at lw_m21 111 rfl) rfl
theorem q5337 : (Jvm.Cond.methodLink "TypeHouseModel" (764 : Nat) ({ cls := "TypeHouseModel", name := "sizeFrom", desc := "(IZZ)I" } : Jvm.MethodName)) ∈ lw_all := lw_g (lw_at lw_m21 112 rfl) rfl
theorem q5339 : (Jvm.Cond.instanceMethod ({ cls := "TypeHouseModel", name := "sizeFrom", desc := "(IZZ)I" } : Jvm.MethodName)) ∈ lw_all := lw_g (lw_at lw_m21 114 rfl) rfl
theorem q5340 : (Jvm.Cond.code ({ cls := "TypeHouseModel", name := "sizeFrom", desc := "(IZZ)I" } : Jvm.MethodName) prog_37_method_95_code (11 : Nat) (Option.some Jvm.ClassFile.FieldType.int)) ∈ lw_all := lw_g (lw_at lw_m21 115 rfl) rfl
theorem q5341 : (Jvm.Cond.methodLink "TypeHouseModel" (744 : Nat) ({ cls := "TypeHouseModel", name := "factor", desc := "(I)V" } : Jvm.MethodName)) ∈ lw_all := lw_g (lw_at lw_m21 116 rfl) rfl
theorem q5343 : (Jvm.Cond.instanceMethod ({ cls := "TypeHouseModel", name := "factor", desc := "(I)V" } : Jvm.MethodName)) ∈ lw_all := lw_g (lw_at lw_m21 118 rfl) rfl
theorem q5344 : (Jvm.Cond.code ({ cls := "TypeHouseModel", name := "factor", desc := "(I)V" } : Jvm.MethodName) prog_37_method_87_code (7 : Nat) (Option.none : Option Jvm.ClassFile.FieldType)) ∈ lw_all := lw_g (lw_at lw_m21 119 rfl) rfl
theorem q5347 : (Jvm.Cond.methodLink "TypeHouseModel" (707 : Nat) ({ cls := "TypeHouseModel", name := "keyword", desc := "(Ljava/lang/String;)Z" } : Jvm.MethodName)) ∈ lw_all := lw_g (lw_at lw_m21 122 rfl) rfl
theorem q5349 : (Jvm.Cond.instanceMethod ({ cls := "TypeHouseModel", name := "keyword", desc := "(Ljava/lang/String;)Z" } : Jvm.MethodName)) ∈ lw_all := lw_g (lw_at lw_m21 124 rfl) rfl
theorem q5350 : (Jvm.Cond.code ({ cls := "TypeHouseModel", name := "keyword", desc := "(Ljava/lang/String;)Z" } : Jvm.MethodName) prog_37_method_85_code (6 : Nat) (Option.some Jvm.ClassFile.FieldType.boolean)) ∈ lw_all := lw_g (lw_at lw_m21 125 rfl) rfl
theorem q5351 : (Jvm.Cond.methodLink "TypeHouseModel" (669 : Nat) ({ cls := "TypeHouseModel", name := "isLetter", desc := "(II)Z" } : Jvm.MethodName)) ∈ lw_all := lw_g (lw_at lw_m21 126 rfl) rfl
theorem q5353 : (Jvm.Cond.instanceMethod ({ cls := "TypeHouseModel", name := "isLetter", desc := "(II)Z" } : Jvm.MethodName)) ∈ lw_all := lw_g (lw_at lw_m21 128 rfl) rfl
theorem q5354 : (Jvm.Cond.code ({ cls := "TypeHouseModel", name := "isLetter", desc := "(II)Z" } : Jvm.MethodName) prog_37_method_86_code (3 : Nat) (Option.some Jvm.ClassFile.FieldType.boolean)) ∈ lw_all := lw_g (lw_at lw_m21 129 rfl) rfl
theorem q5356 : (Jvm.Cond.constantLong "TypeHouseModel" (751 : Nat) (16384 : Int64)) ∈ lw_all := lw_g (lw_at lw_m21 131 rfl) rfl
theorem q5358 : (Jvm.Cond.methodLink "TypeHouseModel" (732 : Nat) ({ cls := "TypeHouseModel", name := "times", desc := "(JJJJ)J" } : Jvm.MethodName)) ∈ lw_all := lw_g (lw_at lw_m21 133 rfl) rfl
theorem q5359 : (Jvm.Cond.static ({ cls := "TypeHouseModel", name := "times", desc := "(JJJJ)J" } : Jvm.MethodName)) ∈ lw_all := lw_g (lw_at lw_m21 134 rfl) rfl
theorem q5360 : (Jvm.Cond.code ({ cls := "TypeHouseModel", name := "times", desc := "(JJJJ)J" } : Jvm.MethodName) prog_37_method_88_code (18 : Nat) (Option.some Jvm.ClassFile.FieldType.long)) ∈ lw_all := lw_g (lw_at lw_m21 135 rfl) rfl
theorem q5361 : (Jvm.Cond.methodLink "TypeHouseModel" (753 : Nat) ({ cls := "TypeHouseModel", name := "measured", desc := "(JJ)J" } : Jvm.MethodName)) ∈ lw_all := lw_g (lw_at lw_m21 136 rfl) rfl
theorem q5363 : (Jvm.Cond.instanceMethod ({ cls := "TypeHouseModel", name := "measured", desc := "(JJ)J" } : Jvm.MethodName)) ∈ lw_all := lw_g (lw_at lw_m21 138 rfl) rfl
theorem q5364 : (Jvm.Cond.code ({ cls := "TypeHouseModel", name := "measured", desc := "(JJ)J" } : Jvm.MethodName) prog_37_method_92_code (11 : Nat) (Option.some Jvm.ClassFile.FieldType.long)) ∈ lw_all := lw_g (lw_at lw_m21 139 rfl) rfl
theorem q5369 : (Jvm.Cond.methodLink "TypeHouseModel" (711 : Nat) ({ cls := "TypeHouseModel", name := "unit", desc := "()I" } : Jvm.MethodName)) ∈ lw_all := lw_g (lw_at lw_m21 144 rfl) rfl
theorem q5371 : (Jvm.Cond.instanceMethod ({ cls := "TypeHouseModel", name := "unit", desc := "()I" } : Jvm.MethodName)) ∈ lw_all := lw_g (lw_at lw_m21 146 rfl) rfl
theorem q5372 : (Jvm.Cond.code ({ cls := "TypeHouseModel", name := "unit", desc := "()I" } : Jvm.MethodName) prog_37_method_91_code (2 : Nat) (Option.some Jvm.ClassFile.FieldType.int)) ∈ lw_all := lw_g (lw_at lw_m21 147 rfl) rfl
theorem q5373 : (Jvm.Cond.methodLink "TypeHouseModel" (703 : Nat) ({ cls := "TypeHouseModel", name := "unitName", desc := "(I)Ljava/lang/String;" } : Jvm.MethodName)) ∈ lw_all := lw_g (lw_at lw_m21 148 rfl) rfl
theorem q5374 : (Jvm.Cond.static ({ cls := "TypeHouseModel", name := "unitName", desc := "(I)Ljava/lang/String;" } : Jvm.MethodName)) ∈ lw_all := lw_g (lw_at lw_m21 149 rfl) rfl
theorem q5375 : (Jvm.Cond.code ({ cls := "TypeHouseModel", name := "unitName", desc := "(I)Ljava/lang/String;" } : Jvm.MethodName) prog_37_method_90_code (1 : Nat) (Option.some (Jvm.ClassFile.FieldType.object "java/lang/String"))) ∈ lw_all := lw_g (lw_at lw_m21 150 rfl) rfl
theorem q5385 : (Jvm.Cond.constantLong "TypeHouseModel" (716 : Nat) (786432 : Int64)) ∈ lw_all := lw_g (lw_at lw_m21 160 rfl) rfl
theorem q5386 : (Jvm.Cond.constantLong "TypeHouseModel" (718 : Nat) (473628672 : Int64)) ∈ lw_all := lw_g (lw_at lw_m21 161 rfl) rfl
theorem q5387 : (Jvm.Cond.methodLink "TypeHouseModel" (720 : Nat) ({ cls := "TypeHouseModel", name := "parameter", desc := "(I)I" } : Jvm.MethodName)) ∈ lw_all := lw_g (lw_at lw_m21 162 rfl) rfl
theorem q5389 : (Jvm.Cond.instanceMethod ({ cls := "TypeHouseModel", name := "parameter", desc := "(I)I" } : Jvm.MethodName)) ∈ lw_all := lw_g (lw_at lw_m21 164 rfl) rfl
theorem q5390 : (Jvm.Cond.code ({ cls := "TypeHouseModel", name := "parameter", desc := "(I)I" } : Jvm.MethodName) prog_37_method_89_code (3 : Nat) (Option.some Jvm.ClassFile.FieldType.int)) ∈ lw_all := lw_g (lw_at lw_m21 165 rfl) rfl
theorem q5391 : (Jvm.Cond.methodLink "TypeHouseModel" (681 : Nat) ({ cls := "TypeHouseModel$Metrics", name := "parameter", desc := "(II)I" } : Jvm.MethodName)) ∈ lw_all := lw_g (lw_at lw_m21 166 rfl) rfl
theorem q5392 : (Jvm.Cond.instanceMethod ({ cls := "TypeHouseModel$Metrics", name := "parameter", desc := "(II)I" } : Jvm.MethodName)) ∈ lw_all := lw_g (lw_at lw_m21 167 rfl) rfl
theorem q5393 : (Jvm.Cond.selects "TypeHouseModel$Metrics" ({ cls := "TypeHouseModel$Metrics", name := "parameter", desc := "(II)I" } : Jvm.MethodName) ({ cls := "TypeHouseModel$Metrics", name := "parameter", desc := "(II)I" } : Jvm.MethodName)) ∈ lw_all := lw_g (lw_at lw_m21 168 rfl) rfl
theorem q5394 : (Jvm.Cond.code ({ cls := "TypeHouseModel$Metrics", name := "parameter", desc := "(II)I" } : Jvm.MethodName) prog_41_method_29_code (3 : Nat) (Option.some Jvm.ClassFile.FieldType.int)) ∈ lw_all := lw_g (lw_at lw_m21 169 rfl) rfl
theorem q5403 : (Jvm.Cond.constantLong "TypeHouseModel" (722 : Nat) (100 : Int64)) ∈ lw_all := lw_g (lw_at lw_m21 178 rfl) rfl
theorem q5404 : (Jvm.Cond.constantLong "TypeHouseModel" (724 : Nat) (7200 : Int64)) ∈ lw_all := lw_g (lw_at lw_m21 179 rfl) rfl
theorem q5405 : (Jvm.Cond.constantLong "TypeHouseModel" (726 : Nat) (254 : Int64)) ∈ lw_all := lw_g (lw_at lw_m21 180 rfl) rfl
theorem q5406 : (Jvm.Cond.constantLong "TypeHouseModel" (728 : Nat) (2540 : Int64)) ∈ lw_all := lw_g (lw_at lw_m21 181 rfl) rfl
theorem q5407 : (Jvm.Cond.constantLong "TypeHouseModel" (730 : Nat) (32768 : Int64)) ∈ lw_all := lw_g (lw_at lw_m21 182 rfl) rfl
theorem q5408 : (Jvm.Cond.methodLink "TypeHouseModel" (760 : Nat) ({ cls := "TypeHouseModel", name := "sized", desc := "(J)I" } : Jvm.MethodName)) ∈ lw_all := lw_g (lw_at lw_m21 183 rfl) rfl
theorem q5410 : (Jvm.Cond.instanceMethod ({ cls := "TypeHouseModel", name := "sized", desc := "(J)I" } : Jvm.MethodName)) ∈ lw_all := lw_g (lw_at lw_m21 185 rfl) rfl
theorem q5411 : (Jvm.Cond.code ({ cls := "TypeHouseModel", name := "sized", desc := "(J)I" } : Jvm.MethodName) prog_37_method_94_code (3 : Nat) (Option.some Jvm.ClassFile.FieldType.int)) ∈ lw_all := lw_g (lw_at lw_m21 186 rfl) rfl
theorem q5421 : (Jvm.Cond.methodLink "TypeHouseModel" (593 : Nat) ({ cls := "TypeHouseModel", name := "shape", desc := "(IZ)I" } : Jvm.MethodName)) ∈ lw_all := lw_g (lw_at lw_m21 196 rfl) rfl
theorem q5423 : (Jvm.Cond.instanceMethod ({ cls := "TypeHouseModel", name := "shape", desc := "(IZ)I" } : Jvm.MethodName)) ∈ lw_all := lw_g (lw_at lw_m21 198 rfl) rfl
theorem q5424 : (Jvm.Cond.code ({ cls := "TypeHouseModel", name := "shape", desc := "(IZ)I" } : Jvm.MethodName) prog_37_method_58_code (4 : Nat) (Option.some Jvm.ClassFile.FieldType.int)) ∈ lw_all := lw_g (lw_at lw_m21 199 rfl) rfl
theorem q5425 : (Jvm.Cond.methodLink "TypeHouseModel" (597 : Nat) ({ cls := "TypeHouseModel", name := "meanSame", desc := "(II)Z" } : Jvm.MethodName)) ∈ lw_all := lw_g (lw_at lw_m21 200 rfl) rfl
theorem q5427 : (Jvm.Cond.instanceMethod ({ cls := "TypeHouseModel", name := "meanSame", desc := "(II)Z" } : Jvm.MethodName)) ∈ lw_all := lw_g (lw_at lw_m21 202 rfl) rfl
theorem q5428 : (Jvm.Cond.code ({ cls := "TypeHouseModel", name := "meanSame", desc := "(II)Z" } : Jvm.MethodName) prog_37_method_59_code (7 : Nat) (Option.some Jvm.ClassFile.FieldType.boolean)) ∈ lw_all := lw_g (lw_at lw_m21 203 rfl) rfl
theorem q5429 : (Jvm.Cond.methodLink "TypeHouseModel" (600 : Nat) ({ cls := "TypeHouseModel", name := "compare", desc := "()Z" } : Jvm.MethodName)) ∈ lw_all := lw_g (lw_at lw_m21 204 rfl) rfl
theorem q5433 : (Jvm.Cond.methodLink "TypeHouseModel" (603 : Nat) ({ cls := "TypeHouseModel", name := "drop", desc := "(II)V" } : Jvm.MethodName)) ∈ lw_all := lw_g (lw_at lw_m21 208 rfl) rfl
theorem q5435 : (Jvm.Cond.instanceMethod ({ cls := "TypeHouseModel", name := "drop", desc := "(II)V" } : Jvm.MethodName)) ∈ lw_all := lw_g (lw_at lw_m21 210 rfl) rfl
theorem q5436 : (Jvm.Cond.code ({ cls := "TypeHouseModel", name := "drop", desc := "(II)V" } : Jvm.MethodName) prog_37_method_63_code (7 : Nat) (Option.none : Option Jvm.ClassFile.FieldType)) ∈ lw_all := lw_g (lw_at lw_m21 211 rfl) rfl
theorem q5924 : (Jvm.Cond.instanceMethod ({ cls := "TypeHouseModel", name := "define", desc := "(ZZ)V" } : Jvm.MethodName)) ∈ lw_all := lw_g (lw_at lw_m23 219 rfl) rfl
theorem q5925 : (Jvm.Cond.code ({ cls := "TypeHouseModel", name := "define", desc := "(ZZ)V" } : Jvm.MethodName) prog_37_method_102_code (10 : Nat) (Option.none : Option Jvm.ClassFile.FieldType)) ∈ lw_all := lw_g (lw_at lw_m23 220 rfl) rfl
theorem q5926 : (Jvm.Cond.methodLink "TypeHouseModel" (784 : Nat) ({ cls := "TypeHouseModel", name := "target", desc := "()I" } : Jvm.MethodName)) ∈ lw_all := lw_g (lw_at lw_m23 221 rfl) rfl
theorem q5928 : (Jvm.Cond.instanceMethod ({ cls := "TypeHouseModel", name := "target", desc := "()I" } : Jvm.MethodName)) ∈ lw_all := lw_g (lw_at lw_m23 223 rfl) rfl
theorem q5929 : (Jvm.Cond.code ({ cls := "TypeHouseModel", name := "target", desc := "()I" } : Jvm.MethodName) prog_37_method_98_code (2 : Nat) (Option.some Jvm.ClassFile.FieldType.int)) ∈ lw_all := lw_g (lw_at lw_m23 224 rfl) rfl
theorem q5930 : (Jvm.Cond.methodLink "TypeHouseModel" (787 : Nat) ({ cls := "TypeHouseModel", name := "keep", desc := "(I)V" } : Jvm.MethodName)) ∈ lw_all := lw_g (lw_at lw_m23 225 rfl) rfl
theorem q5932 : (Jvm.Cond.instanceMethod ({ cls := "TypeHouseModel", name := "keep", desc := "(I)V" } : Jvm.MethodName)) ∈ lw_all := lw_g (lw_at lw_m23 227 rfl) rfl
theorem q5933 : (Jvm.Cond.code ({ cls := "TypeHouseModel", name := "keep", desc := "(I)V" } : Jvm.MethodName) prog_37_method_101_code (2 : Nat) (Option.none : Option Jvm.ClassFile.FieldType)) ∈ lw_all := lw_g (lw_at lw_m23 228 rfl) rfl
theorem q6073 : (Jvm.Cond.instanceMethod ({ cls := "TypeHouseModel", name := "count", desc := "(I)I" } : Jvm.MethodName)) ∈ lw_all := lw_g (lw_at lw_m24 128 rfl) rfl
theorem q6074 : (Jvm.Cond.selects "TypeHouseModel" ({ cls := "TypeHouseModel", name := "count", desc := "(I)I" } : Jvm.MethodName) ({ cls := "TypeHouseModel", name := "count", desc := "(I)I" } : Jvm.MethodName)) ∈ lw_all := lw_g (lw_at lw_m24 129 rfl) rfl
theorem q6075 : (Jvm.Cond.code ({ cls := "TypeHouseModel", name := "count", desc := "(I)I" } : Jvm.MethodName) prog_37_method_11_code (2 : Nat) (Option.some Jvm.ClassFile.FieldType.int)) ∈ lw_all := lw_g (lw_at lw_m24 130 rfl) rfl
abbrev cX35_quoted : ByteArray := prog_37_method_81_code
def yX35_quoted : MethodName := ⟨RX35, "quoted", "()I"⟩
def YX35_quoted : eY := (yX35_quoted, cX35_quoted, 5, (Option.some FieldType.int), [])
theorem mX35_quoted : e_mv YX35_quoted RX35 0 := ⟨q5244, qs271, q5245, by decide, by decide +kernel, (e_sig (by decide +kernel))⟩
theorem dX35_quoted_0 : decode cX35_quoted 0 = .ok (.aload_n 0, 1) := dc_42 (by decide +kernel)
theorem dX35_quoted_1 : decode cX35_quoted 1 = .ok (.invokevirtual 506, 3) := dc_182 (a := 1) (b := 250) (n := 506) (by decide +kernel)
theorem dX35_quoted_4 : decode cX35_quoted 4 = .ok (.istore_n 1, 1) := dc_60 (by decide +kernel)
theorem dX35_quoted_5 : decode cX35_quoted 5 = .ok (.aload_n 0, 1) := dc_42 (by decide +kernel)
theorem dX35_quoted_6 : decode cX35_quoted 6 = .ok (.getfield 321, 3) := dc_180 (a := 1) (b := 65) (n := 321) (by decide +kernel)
theorem dX35_quoted_9 : decode cX35_quoted 9 = .ok (.ifCond .le 5, 3) := dc_158 (a := 0) (b := 5) (v := 5) (by decide +kernel)
theorem dX35_quoted_12 : decode cX35_quoted 12 = .ok (.iconst 0, 1) := dc_3 (by decide +kernel)
theorem dX35_quoted_13 : decode cX35_quoted 13 = .ok (.ireturn, 1) := dc_172 (by decide +kernel)
theorem dX35_quoted_14 : decode cX35_quoted 14 = .ok (.iload_n 1, 1) := dc_27 (by decide +kernel)
theorem dX35_quoted_15 : decode cX35_quoted 15 = .ok (.invokestatic 464, 3) := dc_184 (a := 1) (b := 208) (n := 464) (by decide +kernel)
theorem dX35_quoted_18 : decode cX35_quoted 18 = .ok (.istore_n 2, 1) := dc_61 (by decide +kernel)
theorem dX35_quoted_19 : decode cX35_quoted 19 = .ok (.iload_n 2, 1) := dc_28 (by decide +kernel)
theorem dX35_quoted_20 : decode cX35_quoted 20 = .ok (.sipush 256, 3) := dc_17 (a := 1) (b := 0) (v := 256) (by decide +kernel)
theorem dX35_quoted_23 : decode cX35_quoted 23 = .ok (.irem, 1) := dc_112 (by decide +kernel)
theorem dX35_quoted_24 : decode cX35_quoted 24 = .ok (.istore_n 3, 1) := dc_62 (by decide +kernel)
theorem dX35_quoted_25 : decode cX35_quoted 25 = .ok (.iload_n 2, 1) := dc_28 (by decide +kernel)
theorem dX35_quoted_26 : decode cX35_quoted 26 = .ok (.ldc 7, 2) := dc_18 (a := 7) (by decide +kernel)
theorem dX35_quoted_28 : decode cX35_quoted 28 = .ok (.if_icmp .lt 50, 3) := dc_161 (a := 0) (b := 50) (v := 50) (by decide +kernel)
theorem dX35_quoted_31 : decode cX35_quoted 31 = .ok (.iload_n 2, 1) := dc_28 (by decide +kernel)
theorem dX35_quoted_32 : decode cX35_quoted 32 = .ok (.ldc_w 452, 3) := dc_19 (a := 1) (b := 196) (n := 452) (by decide +kernel)
theorem dX35_quoted_35 : decode cX35_quoted 35 = .ok (.if_icmp .ge 43, 3) := dc_162 (a := 0) (b := 43) (v := 43) (by decide +kernel)
theorem dX35_quoted_38 : decode cX35_quoted 38 = .ok (.iload_n 2, 1) := dc_28 (by decide +kernel)
theorem dX35_quoted_39 : decode cX35_quoted 39 = .ok (.ldc 7, 2) := dc_18 (a := 7) (by decide +kernel)
theorem dX35_quoted_41 : decode cX35_quoted 41 = .ok (.isub, 1) := dc_100 (by decide +kernel)
theorem dX35_quoted_42 : decode cX35_quoted 42 = .ok (.istore 4, 2) := dc_54 (a := 4) (by decide +kernel)
theorem dX35_quoted_44 : decode cX35_quoted 44 = .ok (.aload_n 0, 1) := dc_42 (by decide +kernel)
theorem dX35_quoted_45 : decode cX35_quoted 45 = .ok (.getfield 55, 3) := dc_180 (a := 0) (b := 55) (n := 55) (by decide +kernel)
theorem dX35_quoted_48 : decode cX35_quoted 48 = .ok (.iload 4, 2) := dc_21 (a := 4) (by decide +kernel)
theorem dX35_quoted_50 : decode cX35_quoted 50 = .ok (.iaload, 1) := dc_46 (by decide +kernel)
theorem dX35_quoted_51 : decode cX35_quoted 51 = .ok (.iconst 1, 1) := dc_4 (by decide +kernel)
theorem dX35_quoted_52 : decode cX35_quoted 52 = .ok (.if_icmp .eq 11, 3) := dc_159 (a := 0) (b := 11) (v := 11) (by decide +kernel)
theorem dX35_quoted_55 : decode cX35_quoted 55 = .ok (.aload_n 0, 1) := dc_42 (by decide +kernel)
theorem dX35_quoted_56 : decode cX35_quoted 56 = .ok (.bipush 6, 2) := dc_16 (a := 6) (v := 6) (by decide +kernel)
theorem dX35_quoted_58 : decode cX35_quoted 58 = .ok (.invokevirtual 428, 3) := dc_182 (a := 1) (b := 172) (n := 428) (by decide +kernel)
theorem dX35_quoted_61 : decode cX35_quoted 61 = .ok (.iconst 0, 1) := dc_3 (by decide +kernel)
theorem dX35_quoted_62 : decode cX35_quoted 62 = .ok (.ireturn, 1) := dc_172 (by decide +kernel)
theorem dX35_quoted_63 : decode cX35_quoted 63 = .ok (.aload_n 0, 1) := dc_42 (by decide +kernel)
theorem dX35_quoted_64 : decode cX35_quoted 64 = .ok (.getfield 52, 3) := dc_180 (a := 0) (b := 52) (n := 52) (by decide +kernel)
theorem dX35_quoted_67 : decode cX35_quoted 67 = .ok (.bipush 40, 2) := dc_16 (a := 40) (v := 40) (by decide +kernel)
theorem dX35_quoted_69 : decode cX35_quoted 69 = .ok (.iload 4, 2) := dc_21 (a := 4) (by decide +kernel)
theorem dX35_quoted_71 : decode cX35_quoted 71 = .ok (.imul, 1) := dc_104 (by decide +kernel)
theorem dX35_quoted_72 : decode cX35_quoted 72 = .ok (.baload, 1) := dc_51 (by decide +kernel)
theorem dX35_quoted_73 : decode cX35_quoted 73 = .ok (.sipush 255, 3) := dc_17 (a := 0) (b := 255) (v := 255) (by decide +kernel)
theorem dX35_quoted_76 : decode cX35_quoted 76 = .ok (.iand, 1) := dc_126 (by decide +kernel)
theorem dX35_quoted_77 : decode cX35_quoted 77 = .ok (.istore_n 3, 1) := dc_62 (by decide +kernel)
theorem dX35_quoted_78 : decode cX35_quoted 78 = .ok (.aload_n 0, 1) := dc_42 (by decide +kernel)
theorem dX35_quoted_79 : decode cX35_quoted 79 = .ok (.invokevirtual 648, 3) := dc_182 (a := 2) (b := 136) (n := 648) (by decide +kernel)
theorem dX35_quoted_82 : decode cX35_quoted 82 = .ok (.iload_n 3, 1) := dc_29 (by decide +kernel)
theorem dX35_quoted_83 : decode cX35_quoted 83 = .ok (.ireturn, 1) := dc_172 (by decide +kernel)
def fX35_quoted_b78 (N : Nat) (sE : Nat → Int32 → eH → Option (Unit × eH)) (l0 : Nat) (l3 : Int32) (h : eH) : Option (Int32 × eH) :=
  (k_ok 34 h l0).bind fun _ =>
  (fX35_dropSpace N sE l0 h).bind fun q2 =>
  some (l3, q2.2)
theorem pX35_quoted_b78 {w : eW} {d : Nat} {dr : Nat} (hd : dr + 7 ≤ d + 1) (hdr : 12 ≤ dr) {N : Nat} {sE : Nat → Int32 → eH → Option (Unit × eH)} (hsE : ∀ a t0 h q, sE a t0 h = some q → wm w dr YX35_expand [.ref a, .int t0] h (e_is (e_rn c_V q))) {l0 : Nat} {l3 : Int32} {h : eH} {q} (hf : fX35_quoted_b78 N sE l0 l3 h = some q) : wp w (d + 1) YX35_quoted 78 [some (.ref l0), none, none, some (.int l3), none] [] h (e_is (e_rn c_I q)) := by
  unfold fX35_quoted_b78 at hf
  refine w_aload_n dX35_quoted_78 rfl rfl ?_
  obtain ⟨_, b1, hf⟩ := Option.bind_eq_some_iff.mp hf
  refine x_cnV hf (e_stV (Yc := YX35_dropSpace) (ci := 34) (av := []) (st := []) dX35_quoted_79 q5246 mX35_dropSpace rfl (k_ok_some b1).1 (k_ok_some b1).2) mX35_dropSpace.2.2.1 mX35_dropSpace.2.2.2.2.1 (Nat.le_of_ble_eq_true rfl) (Nat.le_of_ble_eq_true rfl) (fun q hq => pX35_dropSpace (by omega) hdr hsE hq) (fun q2 hf => ?_)
  refine w_iload_n dX35_quoted_82 rfl rfl ?_
  cases hf
  exact w_iret dX35_quoted_83 rfl rfl rfl
def fX35_quoted (N : Nat) (sE : Nat → Int32 → eH → Option (Unit × eH)) (this : Nat) (h : eH) : Option (Int32 × eH) :=
  (k_ok 34 h this).bind fun _ =>
  (fX35_need N this h).bind fun q2 =>
  (g_I 34 q2.2 this 46).bind fun x3 =>
  if x3 ≤ 0 then
    (fX35_bare q2.1 q2.2).bind fun q6 =>
    if q6.1 < (65536 : Int32) then
      fX35_quoted_b78 N sE this (q6.1 - q6.1 / (256 : Int32) * (256 : Int32)) q6.2
    else
      if (131072 : Int32) ≤ q6.1 then
        fX35_quoted_b78 N sE this (q6.1 - q6.1 / (256 : Int32) * (256 : Int32)) q6.2
      else
        (g_A 34 q6.2 this 17).bind fun a9 =>
        (r_I 100 q6.2 a9 (q6.1 - (65536 : Int32))).bind fun x11 =>
        if x11 = (1 : Int32) then
          (g_A 34 q6.2 this 16).bind fun a14 =>
          (r_I 102 q6.2 a14 ((40 : Int32) * (q6.1 - (65536 : Int32)))).bind fun x16 =>
          fX35_quoted_b78 N sE this (x16 &&& (255 : Int32)) q6.2
        else
          (k_ok 34 q6.2 this).bind fun _ =>
          (fX35_fail this (6 : Int32) q6.2).bind fun q19 =>
          some ((0 : Int32), q19.2)
  else
    some ((0 : Int32), q2.2)
theorem pX35_quoted {w : eW} {d : Nat} {dr : Nat} (hd : dr + 7 ≤ d) (hdr : 12 ≤ dr) {N : Nat} {sE : Nat → Int32 → eH → Option (Unit × eH)} (hsE : ∀ a t0 h q, sE a t0 h = some q → wm w dr YX35_expand [.ref a, .int t0] h (e_is (e_rn c_V q))) {this : Nat} {h : eH} {q} (hf : fX35_quoted N sE this h = some q) : wm w d YX35_quoted [.ref this] h (e_is (e_rn c_I q)) := by
  obtain ⟨d, rfl⟩ : ∃ e, d = e + 1 := ⟨d - 1, by omega⟩
  show wp w (d + 1) YX35_quoted 0 [some (.ref this), none, none, none, none] [] h _
  unfold fX35_quoted at hf
  refine w_aload_n dX35_quoted_0 rfl rfl ?_
  obtain ⟨_, b1, hf⟩ := Option.bind_eq_some_iff.mp hf
  refine x_cnI hf (e_stV (Yc := YX35_need) (ci := 34) (av := []) (st := []) dX35_quoted_1 q5154 mX35_need rfl (k_ok_some b1).1 (k_ok_some b1).2) mX35_need.2.2.1 mX35_need.2.2.2.2.1 (Nat.le_of_ble_eq_true rfl) (Nat.le_of_ble_eq_true rfl) (fun q hq => pX35_need (by omega) hq) (fun q2 hf => ?_)
  refine w_istore_n dX35_quoted_4 rfl (by decide) (ls' := [some (.ref this), some (.int q2.1), none, none, none]) rfl ?_
  refine w_aload_n dX35_quoted_5 rfl rfl ?_
  obtain ⟨x3, b4, hf⟩ := Option.bind_eq_some_iff.mp hf
  refine GX35_321 b4 dX35_quoted_6 rfl ?_
  refine w_if_le 14 dX35_quoted_9 (by decide) (fun c5 => ?_) (fun c5 => ?_)
  · replace hf := (if_pos (show x3 ≤ 0 from c5)).symm.trans hf
    refine w_iload_n dX35_quoted_14 rfl rfl ?_
    refine x_cnI hf (e_stS (Yc := YX35_bare) (av := [.int q2.1]) (st := []) dX35_quoted_15 q5139 mX35_bare) mX35_bare.2.2.1 mX35_bare.2.2.2.2.1 (Nat.le_of_ble_eq_true rfl) (Nat.le_of_ble_eq_true rfl) (fun q hq => pX35_bare (by omega) hq) (fun q6 hf => ?_)
    refine w_istore_n dX35_quoted_18 rfl (by decide) (ls' := [some (.ref this), some (.int q2.1), some (.int q6.1), none, none]) rfl ?_
    refine w_iload_n dX35_quoted_19 rfl rfl ?_
    refine w_sipush dX35_quoted_20 (v := 256) (by decide) ?_
    refine w_irem dX35_quoted_23 (by decide) ?_
    refine w_istore_n dX35_quoted_24 rfl (by decide) (ls' := [some (.ref this), some (.int q2.1), some (.int q6.1), some (.int (q6.1 - q6.1 / (256 : Int32) * (256 : Int32))), none]) rfl ?_
    refine w_iload_n dX35_quoted_25 rfl rfl ?_
    refine w_ldc dX35_quoted_26 q4119 ?_
    refine w_icmp_lt 78 dX35_quoted_28 (by decide) (fun c7 => ?_) (fun c7 => ?_)
    · replace hf := (if_pos (show q6.1 < (65536 : Int32) from c7)).symm.trans hf
      exact (pX35_quoted_b78 hd hdr hsE hf).to ⟨rfl, rfl, trivial⟩
    · replace hf := (if_neg (show ¬ (q6.1 < (65536 : Int32)) from c7)).symm.trans hf
      refine w_iload_n dX35_quoted_31 rfl rfl ?_
      refine w_ldc_w dX35_quoted_32 q5118 ?_
      refine w_icmp_ge 78 dX35_quoted_35 (by decide) (fun c8 => ?_) (fun c8 => ?_)
      · replace hf := (if_pos (show (131072 : Int32) ≤ q6.1 from c8)).symm.trans hf
        exact (pX35_quoted_b78 hd hdr hsE hf).to ⟨rfl, rfl, trivial⟩
      · replace hf := (if_neg (show ¬ ((131072 : Int32) ≤ q6.1) from c8)).symm.trans hf
        refine w_iload_n dX35_quoted_38 rfl rfl ?_
        refine w_ldc dX35_quoted_39 q4119 ?_
        refine w_isub dX35_quoted_41 ?_
        refine w_istore dX35_quoted_42 (by decide) (ls' := [some (.ref this), some (.int q2.1), some (.int q6.1), some (.int (q6.1 - q6.1 / (256 : Int32) * (256 : Int32))), some (.int (q6.1 - (65536 : Int32)))]) rfl ?_
        refine w_aload_n dX35_quoted_44 rfl rfl ?_
        obtain ⟨a9, b10, hf⟩ := Option.bind_eq_some_iff.mp hf
        refine GX35_55 b10 dX35_quoted_45 rfl ?_
        refine w_iload dX35_quoted_48 rfl ?_
        obtain ⟨x11, b12, hf⟩ := Option.bind_eq_some_iff.mp hf
        refine x_rI b12 dX35_quoted_50 ?_
        refine w_iconst dX35_quoted_51 (v := 1) (by decide) ?_
        refine w_icmp_eq 63 dX35_quoted_52 (by decide) (fun c13 => ?_) (fun c13 => ?_)
        · replace hf := (if_pos (show x11 = (1 : Int32) from c13)).symm.trans hf
          refine w_aload_n dX35_quoted_63 rfl rfl ?_
          obtain ⟨a14, b15, hf⟩ := Option.bind_eq_some_iff.mp hf
          refine GX35_52 b15 dX35_quoted_64 rfl ?_
          refine w_bipush dX35_quoted_67 (v := 40) (by decide) ?_
          refine w_iload dX35_quoted_69 rfl ?_
          refine w_imul dX35_quoted_71 ?_
          obtain ⟨x16, b17, hf⟩ := Option.bind_eq_some_iff.mp hf
          refine x_rB b17 dX35_quoted_72 ?_
          refine w_sipush dX35_quoted_73 (v := 255) (by decide) ?_
          refine w_iand dX35_quoted_76 ?_
          refine w_istore_n dX35_quoted_77 rfl (by decide) (ls' := [some (.ref this), some (.int q2.1), some (.int q6.1), some (.int (x16 &&& (255 : Int32))), some (.int (q6.1 - (65536 : Int32)))]) rfl ?_
          exact (pX35_quoted_b78 hd hdr hsE hf).to ⟨rfl, rfl, trivial⟩
        · replace hf := (if_neg (show ¬ (x11 = (1 : Int32)) from c13)).symm.trans hf
          refine w_aload_n dX35_quoted_55 rfl rfl ?_
          refine w_bipush dX35_quoted_56 (v := 6) (by decide) ?_
          obtain ⟨_, b18, hf⟩ := Option.bind_eq_some_iff.mp hf
          refine x_cnV hf (e_stV (Yc := YX35_fail) (ci := 34) (av := [.int (6 : Int32)]) (st := []) dX35_quoted_58 q5109 mX35_fail rfl (k_ok_some b18).1 (k_ok_some b18).2) mX35_fail.2.2.1 mX35_fail.2.2.2.2.1 (Nat.le_of_ble_eq_true rfl) (Nat.le_of_ble_eq_true rfl) (fun q hq => pX35_fail (by omega) hq) (fun q19 hf => ?_)
          refine w_iconst dX35_quoted_61 (v := 0) (by decide) ?_
          cases hf
          exact w_iret dX35_quoted_62 rfl rfl rfl
  · replace hf := (if_neg (show ¬ (x3 ≤ 0) from c5)).symm.trans hf
    refine w_iconst dX35_quoted_12 (v := 0) (by decide) ?_
    cases hf
    exact w_iret dX35_quoted_13 rfl rfl rfl
abbrev cX35_isCounter : ByteArray := prog_37_method_66_code
def yX35_isCounter : MethodName := ⟨RX35, "isCounter", "(I)Z"⟩
def YX35_isCounter : eY := (yX35_isCounter, cX35_isCounter, 1, (Option.some FieldType.boolean), [])
theorem mX35_isCounter : e_ms YX35_isCounter 1 := ⟨q5259, q466, q5260, by decide, by decide +kernel, (e_sig (by decide +kernel))⟩
theorem dX35_isCounter_0 : decode cX35_isCounter 0 = .ok (.iload_n 0, 1) := dc_26 (by decide +kernel)
theorem dX35_isCounter_1 : decode cX35_isCounter 1 = .ok (.bipush 41, 2) := dc_16 (a := 41) (v := 41) (by decide +kernel)
theorem dX35_isCounter_3 : decode cX35_isCounter 3 = .ok (.if_icmp .eq 15, 3) := dc_159 (a := 0) (b := 15) (v := 15) (by decide +kernel)
theorem dX35_isCounter_6 : decode cX35_isCounter 6 = .ok (.iload_n 0, 1) := dc_26 (by decide +kernel)
theorem dX35_isCounter_7 : decode cX35_isCounter 7 = .ok (.bipush 70, 2) := dc_16 (a := 70) (v := 70) (by decide +kernel)
theorem dX35_isCounter_9 : decode cX35_isCounter 9 = .ok (.if_icmp .lt 13, 3) := dc_161 (a := 0) (b := 13) (v := 13) (by decide +kernel)
theorem dX35_isCounter_12 : decode cX35_isCounter 12 = .ok (.iload_n 0, 1) := dc_26 (by decide +kernel)
theorem dX35_isCounter_13 : decode cX35_isCounter 13 = .ok (.bipush 83, 2) := dc_16 (a := 83) (v := 83) (by decide +kernel)
theorem dX35_isCounter_15 : decode cX35_isCounter 15 = .ok (.if_icmp .ge 7, 3) := dc_162 (a := 0) (b := 7) (v := 7) (by decide +kernel)
theorem dX35_isCounter_18 : decode cX35_isCounter 18 = .ok (.iconst 1, 1) := dc_4 (by decide +kernel)
theorem dX35_isCounter_19 : decode cX35_isCounter 19 = .ok (.goto 4, 3) := dc_167 (a := 0) (b := 4) (v := 4) (by decide +kernel)
theorem dX35_isCounter_22 : decode cX35_isCounter 22 = .ok (.iconst 0, 1) := dc_3 (by decide +kernel)
theorem dX35_isCounter_23 : decode cX35_isCounter 23 = .ok (.ireturn, 1) := dc_172 (by decide +kernel)
def fX35_isCounter_b23 (s0 : Int32) (h : eH) : Option (Int32 × eH) :=
  z_r s0 (s0, h)
theorem pX35_isCounter_b23 {w : eW} {d : Nat} (hd : 0 ≤ d) {s0 : Int32} {h : eH} {q} (hf : fX35_isCounter_b23 s0 h = some q) : wp w d YX35_isCounter 23 [none] [.int s0] h (e_is (e_rn c_I q)) := by
  unfold fX35_isCounter_b23 at hf
  obtain ⟨b1, rfl⟩ := z_r_some hf
  exact w_iret dX35_isCounter_23 rfl b1 rfl
def fX35_isCounter_b18  (h : eH) : Option (Int32 × eH) :=
  fX35_isCounter_b23 (1 : Int32) h
theorem pX35_isCounter_b18 {w : eW} {d : Nat} (hd : 0 ≤ d)  {h : eH} {q} (hf : fX35_isCounter_b18  h = some q) : wp w d YX35_isCounter 18 [none] [] h (e_is (e_rn c_I q)) := by
  unfold fX35_isCounter_b18 at hf
  refine w_iconst dX35_isCounter_18 (v := 1) (by decide) ?_
  refine w_goto 23 dX35_isCounter_19 (by decide) ?_
  exact (pX35_isCounter_b23 hd hf).to trivial
def fX35_isCounter_b22  (h : eH) : Option (Int32 × eH) :=
  fX35_isCounter_b23 (0 : Int32) h
theorem pX35_isCounter_b22 {w : eW} {d : Nat} (hd : 0 ≤ d)  {h : eH} {q} (hf : fX35_isCounter_b22  h = some q) : wp w d YX35_isCounter 22 [none] [] h (e_is (e_rn c_I q)) := by
  unfold fX35_isCounter_b22 at hf
  refine w_iconst dX35_isCounter_22 (v := 0) (by decide) ?_
  exact (pX35_isCounter_b23 hd hf).to trivial
def fX35_isCounter (p0 : Int32) (h : eH) : Option (Int32 × eH) :=
  if p0 = (41 : Int32) then
    fX35_isCounter_b18 h
  else
    if p0 < (70 : Int32) then
      fX35_isCounter_b22 h
    else
      if (83 : Int32) ≤ p0 then
        fX35_isCounter_b22 h
      else
        fX35_isCounter_b18 h
theorem pX35_isCounter {w : eW} {d : Nat} (hd : 0 ≤ d) {p0 : Int32} {h : eH} {q} (hf : fX35_isCounter p0 h = some q) : wm w d YX35_isCounter [.int p0] h (e_is (e_rn c_I q)) := by
  show wp w d YX35_isCounter 0 [some (.int p0)] [] h _
  unfold fX35_isCounter at hf
  refine w_iload_n dX35_isCounter_0 rfl rfl ?_
  refine w_bipush dX35_isCounter_1 (v := 41) (by decide) ?_
  refine w_icmp_eq 18 dX35_isCounter_3 (by decide) (fun c1 => ?_) (fun c1 => ?_)
  · replace hf := (if_pos (show p0 = (41 : Int32) from c1)).symm.trans hf
    exact (pX35_isCounter_b18 hd hf).to trivial
  · replace hf := (if_neg (show ¬ (p0 = (41 : Int32)) from c1)).symm.trans hf
    refine w_iload_n dX35_isCounter_6 rfl rfl ?_
    refine w_bipush dX35_isCounter_7 (v := 70) (by decide) ?_
    refine w_icmp_lt 22 dX35_isCounter_9 (by decide) (fun c2 => ?_) (fun c2 => ?_)
    · replace hf := (if_pos (show p0 < (70 : Int32) from c2)).symm.trans hf
      exact (pX35_isCounter_b22 hd hf).to trivial
    · replace hf := (if_neg (show ¬ (p0 < (70 : Int32)) from c2)).symm.trans hf
      refine w_iload_n dX35_isCounter_12 rfl rfl ?_
      refine w_bipush dX35_isCounter_13 (v := 83) (by decide) ?_
      refine w_icmp_ge 22 dX35_isCounter_15 (by decide) (fun c3 => ?_) (fun c3 => ?_)
      · replace hf := (if_pos (show (83 : Int32) ≤ p0 from c3)).symm.trans hf
        exact (pX35_isCounter_b22 hd hf).to trivial
      · replace hf := (if_neg (show ¬ ((83 : Int32) ≤ p0) from c3)).symm.trans hf
        exact (pX35_isCounter_b18 hd hf).to trivial
abbrev cX35_isNumber : ByteArray := prog_37_method_72_code
def yX35_isNumber : MethodName := ⟨RX35, "isNumber", "(I)Z"⟩
def YX35_isNumber : eY := (yX35_isNumber, cX35_isNumber, 2, (Option.some FieldType.boolean), [])
theorem mX35_isNumber : e_mv YX35_isNumber RX35 1 := ⟨q5263, qs275, q5264, by decide, by decide +kernel, (e_sig (by decide +kernel))⟩
theorem dX35_isNumber_0 : decode cX35_isNumber 0 = .ok (.iload_n 1, 1) := dc_27 (by decide +kernel)
theorem dX35_isNumber_1 : decode cX35_isNumber 1 = .ok (.iconst (-1), 1) := dc_2 (by decide +kernel)
theorem dX35_isNumber_2 : decode cX35_isNumber 2 = .ok (.if_icmp .eq 29, 3) := dc_159 (a := 0) (b := 29) (v := 29) (by decide +kernel)
theorem dX35_isNumber_5 : decode cX35_isNumber 5 = .ok (.aload_n 0, 1) := dc_42 (by decide +kernel)
theorem dX35_isNumber_6 : decode cX35_isNumber 6 = .ok (.iload_n 1, 1) := dc_27 (by decide +kernel)
theorem dX35_isNumber_7 : decode cX35_isNumber 7 = .ok (.invokevirtual 474, 3) := dc_182 (a := 1) (b := 218) (n := 474) (by decide +kernel)
theorem dX35_isNumber_10 : decode cX35_isNumber 10 = .ok (.ldc_w 606, 3) := dc_19 (a := 2) (b := 94) (n := 606) (by decide +kernel)
theorem dX35_isNumber_13 : decode cX35_isNumber 13 = .ok (.if_icmp .lt 18, 3) := dc_161 (a := 0) (b := 18) (v := 18) (by decide +kernel)
theorem dX35_isNumber_16 : decode cX35_isNumber 16 = .ok (.aload_n 0, 1) := dc_42 (by decide +kernel)
theorem dX35_isNumber_17 : decode cX35_isNumber 17 = .ok (.iload_n 1, 1) := dc_27 (by decide +kernel)
theorem dX35_isNumber_18 : decode cX35_isNumber 18 = .ok (.invokevirtual 474, 3) := dc_182 (a := 1) (b := 218) (n := 474) (by decide +kernel)
theorem dX35_isNumber_21 : decode cX35_isNumber 21 = .ok (.ldc_w 633, 3) := dc_19 (a := 2) (b := 121) (n := 633) (by decide +kernel)
theorem dX35_isNumber_24 : decode cX35_isNumber 24 = .ok (.if_icmp .ge 7, 3) := dc_162 (a := 0) (b := 7) (v := 7) (by decide +kernel)
theorem dX35_isNumber_27 : decode cX35_isNumber 27 = .ok (.iconst 1, 1) := dc_4 (by decide +kernel)
theorem dX35_isNumber_28 : decode cX35_isNumber 28 = .ok (.goto 4, 3) := dc_167 (a := 0) (b := 4) (v := 4) (by decide +kernel)
theorem dX35_isNumber_31 : decode cX35_isNumber 31 = .ok (.iconst 0, 1) := dc_3 (by decide +kernel)
theorem dX35_isNumber_32 : decode cX35_isNumber 32 = .ok (.ireturn, 1) := dc_172 (by decide +kernel)
def fX35_isNumber_b32 (s0 : Int32) (h : eH) : Option (Int32 × eH) :=
  z_r s0 (s0, h)
theorem pX35_isNumber_b32 {w : eW} {d : Nat} (hd : 3 ≤ d + 1) {s0 : Int32} {h : eH} {q} (hf : fX35_isNumber_b32 s0 h = some q) : wp w (d + 1) YX35_isNumber 32 [none, none] [.int s0] h (e_is (e_rn c_I q)) := by
  unfold fX35_isNumber_b32 at hf
  obtain ⟨b1, rfl⟩ := z_r_some hf
  exact w_iret dX35_isNumber_32 rfl b1 rfl
def fX35_isNumber_b31  (h : eH) : Option (Int32 × eH) :=
  fX35_isNumber_b32 (0 : Int32) h
theorem pX35_isNumber_b31 {w : eW} {d : Nat} (hd : 3 ≤ d + 1)  {h : eH} {q} (hf : fX35_isNumber_b31  h = some q) : wp w (d + 1) YX35_isNumber 31 [none, none] [] h (e_is (e_rn c_I q)) := by
  unfold fX35_isNumber_b31 at hf
  refine w_iconst dX35_isNumber_31 (v := 0) (by decide) ?_
  exact (pX35_isNumber_b32 hd hf).to trivial
def fX35_isNumber (this : Nat) (p0 : Int32) (h : eH) : Option (Int32 × eH) :=
  if p0 = (-1 : Int32) then
    fX35_isNumber_b31 h
  else
    (k_ok 34 h this).bind fun _ =>
    (fX35_meaning this p0 h).bind fun q3 =>
    if q3.1 < (3000000 : Int32) then
      fX35_isNumber_b31 q3.2
    else
      (k_ok 34 q3.2 this).bind fun _ =>
      (fX35_meaning this p0 q3.2).bind fun q6 =>
      if (4000000 : Int32) ≤ q6.1 then
        fX35_isNumber_b31 q6.2
      else
        fX35_isNumber_b32 (1 : Int32) q6.2
theorem pX35_isNumber {w : eW} {d : Nat} (hd : 3 ≤ d) {this : Nat} {p0 : Int32} {h : eH} {q} (hf : fX35_isNumber this p0 h = some q) : wm w d YX35_isNumber [.ref this, .int p0] h (e_is (e_rn c_I q)) := by
  obtain ⟨d, rfl⟩ : ∃ e, d = e + 1 := ⟨d - 1, by omega⟩
  show wp w (d + 1) YX35_isNumber 0 [some (.ref this), some (.int p0)] [] h _
  unfold fX35_isNumber at hf
  refine w_iload_n dX35_isNumber_0 rfl rfl ?_
  refine w_iconst dX35_isNumber_1 (v := -1) (by decide) ?_
  refine w_icmp_eq 31 dX35_isNumber_2 (by decide) (fun c1 => ?_) (fun c1 => ?_)
  · replace hf := (if_pos (show p0 = (-1 : Int32) from c1)).symm.trans hf
    exact (pX35_isNumber_b31 hd hf).to trivial
  · replace hf := (if_neg (show ¬ (p0 = (-1 : Int32)) from c1)).symm.trans hf
    refine w_aload_n dX35_isNumber_5 rfl rfl ?_
    refine w_iload_n dX35_isNumber_6 rfl rfl ?_
    obtain ⟨_, b2, hf⟩ := Option.bind_eq_some_iff.mp hf
    refine x_cnI hf (e_stV (Yc := YX35_meaning) (ci := 34) (av := [.int p0]) (st := []) dX35_isNumber_7 q5130 mX35_meaning rfl (k_ok_some b2).1 (k_ok_some b2).2) mX35_meaning.2.2.1 mX35_meaning.2.2.2.2.1 (Nat.le_of_ble_eq_true rfl) (Nat.le_of_ble_eq_true rfl) (fun q hq => pX35_meaning (by omega) hq) (fun q3 hf => ?_)
    refine w_ldc_w dX35_isNumber_10 q5265 ?_
    refine w_icmp_lt 31 dX35_isNumber_13 (by decide) (fun c4 => ?_) (fun c4 => ?_)
    · replace hf := (if_pos (show q3.1 < (3000000 : Int32) from c4)).symm.trans hf
      exact (pX35_isNumber_b31 hd hf).to trivial
    · replace hf := (if_neg (show ¬ (q3.1 < (3000000 : Int32)) from c4)).symm.trans hf
      refine w_aload_n dX35_isNumber_16 rfl rfl ?_
      refine w_iload_n dX35_isNumber_17 rfl rfl ?_
      obtain ⟨_, b5, hf⟩ := Option.bind_eq_some_iff.mp hf
      refine x_cnI hf (e_stV (Yc := YX35_meaning) (ci := 34) (av := [.int p0]) (st := []) dX35_isNumber_18 q5130 mX35_meaning rfl (k_ok_some b5).1 (k_ok_some b5).2) mX35_meaning.2.2.1 mX35_meaning.2.2.2.2.1 (Nat.le_of_ble_eq_true rfl) (Nat.le_of_ble_eq_true rfl) (fun q hq => pX35_meaning (by omega) hq) (fun q6 hf => ?_)
      refine w_ldc_w dX35_isNumber_21 q5266 ?_
      refine w_icmp_ge 31 dX35_isNumber_24 (by decide) (fun c7 => ?_) (fun c7 => ?_)
      · replace hf := (if_pos (show (4000000 : Int32) ≤ q6.1 from c7)).symm.trans hf
        exact (pX35_isNumber_b31 hd hf).to trivial
      · replace hf := (if_neg (show ¬ ((4000000 : Int32) ≤ q6.1) from c7)).symm.trans hf
        refine w_iconst dX35_isNumber_27 (v := 1) (by decide) ?_
        refine w_goto 32 dX35_isNumber_28 (by decide) ?_
        exact (pX35_isNumber_b32 hd hf).to trivial
abbrev cX35_hasValue : ByteArray := prog_37_method_73_code
def yX35_hasValue : MethodName := ⟨RX35, "hasValue", "(I)Z"⟩
def YX35_hasValue : eY := (yX35_hasValue, cX35_hasValue, 3, (Option.some FieldType.boolean), [])
theorem mX35_hasValue : e_mv YX35_hasValue RX35 1 := ⟨q5252, qs273, q5253, by decide, by decide +kernel, (e_sig (by decide +kernel))⟩
theorem dX35_hasValue_0 : decode cX35_hasValue 0 = .ok (.aload_n 0, 1) := dc_42 (by decide +kernel)
theorem dX35_hasValue_1 : decode cX35_hasValue 1 = .ok (.iload_n 1, 1) := dc_27 (by decide +kernel)
theorem dX35_hasValue_2 : decode cX35_hasValue 2 = .ok (.invokevirtual 621, 3) := dc_182 (a := 2) (b := 109) (n := 621) (by decide +kernel)
theorem dX35_hasValue_5 : decode cX35_hasValue 5 = .ok (.istore_n 2, 1) := dc_61 (by decide +kernel)
theorem dX35_hasValue_6 : decode cX35_hasValue 6 = .ok (.iload_n 2, 1) := dc_28 (by decide +kernel)
theorem dX35_hasValue_7 : decode cX35_hasValue 7 = .ok (.invokestatic 634, 3) := dc_184 (a := 2) (b := 122) (n := 634) (by decide +kernel)
theorem dX35_hasValue_10 : decode cX35_hasValue 10 = .ok (.ifCond .ne 17, 3) := dc_154 (a := 0) (b := 17) (v := 17) (by decide +kernel)
theorem dX35_hasValue_13 : decode cX35_hasValue 13 = .ok (.iload_n 2, 1) := dc_28 (by decide +kernel)
theorem dX35_hasValue_14 : decode cX35_hasValue 14 = .ok (.bipush 35, 2) := dc_16 (a := 35) (v := 35) (by decide +kernel)
theorem dX35_hasValue_16 : decode cX35_hasValue 16 = .ok (.if_icmp .eq 11, 3) := dc_159 (a := 0) (b := 11) (v := 11) (by decide +kernel)
theorem dX35_hasValue_19 : decode cX35_hasValue 19 = .ok (.aload_n 0, 1) := dc_42 (by decide +kernel)
theorem dX35_hasValue_20 : decode cX35_hasValue 20 = .ok (.iload_n 1, 1) := dc_27 (by decide +kernel)
theorem dX35_hasValue_21 : decode cX35_hasValue 21 = .ok (.invokevirtual 637, 3) := dc_182 (a := 2) (b := 125) (n := 637) (by decide +kernel)
theorem dX35_hasValue_24 : decode cX35_hasValue 24 = .ok (.ifCond .eq 7, 3) := dc_153 (a := 0) (b := 7) (v := 7) (by decide +kernel)
theorem dX35_hasValue_27 : decode cX35_hasValue 27 = .ok (.iconst 1, 1) := dc_4 (by decide +kernel)
theorem dX35_hasValue_28 : decode cX35_hasValue 28 = .ok (.goto 4, 3) := dc_167 (a := 0) (b := 4) (v := 4) (by decide +kernel)
theorem dX35_hasValue_31 : decode cX35_hasValue 31 = .ok (.iconst 0, 1) := dc_3 (by decide +kernel)
theorem dX35_hasValue_32 : decode cX35_hasValue 32 = .ok (.ireturn, 1) := dc_172 (by decide +kernel)
def fX35_hasValue_b32 (s0 : Int32) (h : eH) : Option (Int32 × eH) :=
  z_r s0 (s0, h)
theorem pX35_hasValue_b32 {w : eW} {d : Nat} (hd : 4 ≤ d + 1) {s0 : Int32} {h : eH} {q} (hf : fX35_hasValue_b32 s0 h = some q) : wp w (d + 1) YX35_hasValue 32 [none, none, none] [.int s0] h (e_is (e_rn c_I q)) := by
  unfold fX35_hasValue_b32 at hf
  obtain ⟨b1, rfl⟩ := z_r_some hf
  exact w_iret dX35_hasValue_32 rfl b1 rfl
def fX35_hasValue_b27  (h : eH) : Option (Int32 × eH) :=
  fX35_hasValue_b32 (1 : Int32) h
theorem pX35_hasValue_b27 {w : eW} {d : Nat} (hd : 4 ≤ d + 1)  {h : eH} {q} (hf : fX35_hasValue_b27  h = some q) : wp w (d + 1) YX35_hasValue 27 [none, none, none] [] h (e_is (e_rn c_I q)) := by
  unfold fX35_hasValue_b27 at hf
  refine w_iconst dX35_hasValue_27 (v := 1) (by decide) ?_
  refine w_goto 32 dX35_hasValue_28 (by decide) ?_
  exact (pX35_hasValue_b32 hd hf).to trivial
def fX35_hasValue (this : Nat) (p0 : Int32) (h : eH) : Option (Int32 × eH) :=
  (k_ok 34 h this).bind fun _ =>
  (fX35_primitiveOf this p0 h).bind fun q2 =>
  (fX35_isCounter q2.1 q2.2).bind fun q3 =>
  if ¬ q3.1 = 0 then
    fX35_hasValue_b27 q3.2
  else
    if q2.1 = (35 : Int32) then
      fX35_hasValue_b27 q3.2
    else
      (k_ok 34 q3.2 this).bind fun _ =>
      (fX35_isNumber this p0 q3.2).bind fun q7 =>
      if q7.1 = 0 then
        fX35_hasValue_b32 (0 : Int32) q7.2
      else
        fX35_hasValue_b27 q7.2
theorem pX35_hasValue {w : eW} {d : Nat} (hd : 4 ≤ d) {this : Nat} {p0 : Int32} {h : eH} {q} (hf : fX35_hasValue this p0 h = some q) : wm w d YX35_hasValue [.ref this, .int p0] h (e_is (e_rn c_I q)) := by
  obtain ⟨d, rfl⟩ : ∃ e, d = e + 1 := ⟨d - 1, by omega⟩
  show wp w (d + 1) YX35_hasValue 0 [some (.ref this), some (.int p0), none] [] h _
  unfold fX35_hasValue at hf
  refine w_aload_n dX35_hasValue_0 rfl rfl ?_
  refine w_iload_n dX35_hasValue_1 rfl rfl ?_
  obtain ⟨_, b1, hf⟩ := Option.bind_eq_some_iff.mp hf
  refine x_cnI hf (e_stV (Yc := YX35_primitiveOf) (ci := 34) (av := [.int p0]) (st := []) dX35_hasValue_2 q5254 mX35_primitiveOf rfl (k_ok_some b1).1 (k_ok_some b1).2) mX35_primitiveOf.2.2.1 mX35_primitiveOf.2.2.2.2.1 (Nat.le_of_ble_eq_true rfl) (Nat.le_of_ble_eq_true rfl) (fun q hq => pX35_primitiveOf (by omega) hq) (fun q2 hf => ?_)
  refine w_istore_n dX35_hasValue_5 rfl (by decide) (ls' := [some (.ref this), some (.int p0), some (.int q2.1)]) rfl ?_
  refine w_iload_n dX35_hasValue_6 rfl rfl ?_
  refine x_cnI hf (e_stS (Yc := YX35_isCounter) (av := [.int q2.1]) (st := []) dX35_hasValue_7 q5258 mX35_isCounter) mX35_isCounter.2.2.1 mX35_isCounter.2.2.2.2.1 (Nat.le_of_ble_eq_true rfl) (Nat.le_of_ble_eq_true rfl) (fun q hq => pX35_isCounter (by omega) hq) (fun q3 hf => ?_)
  refine w_if_ne 27 dX35_hasValue_10 (by decide) (fun c4 => ?_) (fun c4 => ?_)
  · replace hf := (if_pos (show ¬ q3.1 = 0 from c4)).symm.trans hf
    exact (pX35_hasValue_b27 hd hf).to trivial
  · replace hf := (if_neg (show ¬ (¬ q3.1 = 0) from (fun z => z c4))).symm.trans hf
    refine w_iload_n dX35_hasValue_13 rfl rfl ?_
    refine w_bipush dX35_hasValue_14 (v := 35) (by decide) ?_
    refine w_icmp_eq 27 dX35_hasValue_16 (by decide) (fun c5 => ?_) (fun c5 => ?_)
    · replace hf := (if_pos (show q2.1 = (35 : Int32) from c5)).symm.trans hf
      exact (pX35_hasValue_b27 hd hf).to trivial
    · replace hf := (if_neg (show ¬ (q2.1 = (35 : Int32)) from c5)).symm.trans hf
      refine w_aload_n dX35_hasValue_19 rfl rfl ?_
      refine w_iload_n dX35_hasValue_20 rfl rfl ?_
      obtain ⟨_, b6, hf⟩ := Option.bind_eq_some_iff.mp hf
      refine x_cnI hf (e_stV (Yc := YX35_isNumber) (ci := 34) (av := [.int p0]) (st := []) dX35_hasValue_21 q5261 mX35_isNumber rfl (k_ok_some b6).1 (k_ok_some b6).2) mX35_isNumber.2.2.1 mX35_isNumber.2.2.2.2.1 (Nat.le_of_ble_eq_true rfl) (Nat.le_of_ble_eq_true rfl) (fun q hq => pX35_isNumber (by omega) hq) (fun q7 hf => ?_)
      refine w_if_eq 31 dX35_hasValue_24 (by decide) (fun c8 => ?_) (fun c8 => ?_)
      · replace hf := (if_pos (show q7.1 = 0 from c8)).symm.trans hf
        refine w_iconst dX35_hasValue_31 (v := 0) (by decide) ?_
        exact (pX35_hasValue_b32 hd hf).to trivial
      · replace hf := (if_neg (show ¬ (q7.1 = 0) from c8)).symm.trans hf
        exact (pX35_hasValue_b27 hd hf).to trivial
abbrev cX35_value : ByteArray := prog_37_method_76_code
def yX35_value : MethodName := ⟨RX35, "value", "(I)I"⟩
def YX35_value : eY := (yX35_value, cX35_value, 3, (Option.some FieldType.int), [])
theorem mX35_value : e_mv YX35_value RX35 1 := ⟨q5269, qs276, q5270, by decide, by decide +kernel, (e_sig (by decide +kernel))⟩
theorem dX35_value_0 : decode cX35_value 0 = .ok (.aload_n 0, 1) := dc_42 (by decide +kernel)
theorem dX35_value_1 : decode cX35_value 1 = .ok (.iload_n 1, 1) := dc_27 (by decide +kernel)
theorem dX35_value_2 : decode cX35_value 2 = .ok (.invokevirtual 637, 3) := dc_182 (a := 2) (b := 125) (n := 637) (by decide +kernel)
theorem dX35_value_5 : decode cX35_value 5 = .ok (.ifCond .eq 13, 3) := dc_153 (a := 0) (b := 13) (v := 13) (by decide +kernel)
theorem dX35_value_8 : decode cX35_value 8 = .ok (.aload_n 0, 1) := dc_42 (by decide +kernel)
theorem dX35_value_9 : decode cX35_value 9 = .ok (.iload_n 1, 1) := dc_27 (by decide +kernel)
theorem dX35_value_10 : decode cX35_value 10 = .ok (.invokevirtual 474, 3) := dc_182 (a := 1) (b := 218) (n := 474) (by decide +kernel)
theorem dX35_value_13 : decode cX35_value 13 = .ok (.ldc_w 606, 3) := dc_19 (a := 2) (b := 94) (n := 606) (by decide +kernel)
theorem dX35_value_16 : decode cX35_value 16 = .ok (.isub, 1) := dc_100 (by decide +kernel)
theorem dX35_value_17 : decode cX35_value 17 = .ok (.ireturn, 1) := dc_172 (by decide +kernel)
theorem dX35_value_18 : decode cX35_value 18 = .ok (.aload_n 0, 1) := dc_42 (by decide +kernel)
theorem dX35_value_19 : decode cX35_value 19 = .ok (.iload_n 1, 1) := dc_27 (by decide +kernel)
theorem dX35_value_20 : decode cX35_value 20 = .ok (.invokevirtual 621, 3) := dc_182 (a := 2) (b := 109) (n := 621) (by decide +kernel)
theorem dX35_value_23 : decode cX35_value 23 = .ok (.istore_n 2, 1) := dc_61 (by decide +kernel)
theorem dX35_value_24 : decode cX35_value 24 = .ok (.iload_n 2, 1) := dc_28 (by decide +kernel)
theorem dX35_value_25 : decode cX35_value 25 = .ok (.bipush 35, 2) := dc_16 (a := 35) (v := 35) (by decide +kernel)
theorem dX35_value_27 : decode cX35_value 27 = .ok (.if_icmp .ne 21, 3) := dc_160 (a := 0) (b := 21) (v := 21) (by decide +kernel)
theorem dX35_value_30 : decode cX35_value 30 = .ok (.aload_n 0, 1) := dc_42 (by decide +kernel)
theorem dX35_value_31 : decode cX35_value 31 = .ok (.sipush 1460, 3) := dc_17 (a := 5) (b := 180) (v := 1460) (by decide +kernel)
theorem dX35_value_34 : decode cX35_value 34 = .ok (.aload_n 0, 1) := dc_42 (by decide +kernel)
theorem dX35_value_35 : decode cX35_value 35 = .ok (.sipush 255, 3) := dc_17 (a := 0) (b := 255) (v := 255) (by decide +kernel)
theorem dX35_value_38 : decode cX35_value 38 = .ok (.invokevirtual 590, 3) := dc_182 (a := 2) (b := 78) (n := 590) (by decide +kernel)
theorem dX35_value_41 : decode cX35_value 41 = .ok (.iadd, 1) := dc_96 (by decide +kernel)
theorem dX35_value_42 : decode cX35_value 42 = .ok (.invokevirtual 431, 3) := dc_182 (a := 1) (b := 175) (n := 431) (by decide +kernel)
theorem dX35_value_45 : decode cX35_value 45 = .ok (.goto 12, 3) := dc_167 (a := 0) (b := 12) (v := 12) (by decide +kernel)
theorem dX35_value_48 : decode cX35_value 48 = .ok (.aload_n 0, 1) := dc_42 (by decide +kernel)
theorem dX35_value_49 : decode cX35_value 49 = .ok (.aload_n 0, 1) := dc_42 (by decide +kernel)
theorem dX35_value_50 : decode cX35_value 50 = .ok (.iload_n 2, 1) := dc_28 (by decide +kernel)
theorem dX35_value_51 : decode cX35_value 51 = .ok (.invokevirtual 640, 3) := dc_182 (a := 2) (b := 128) (n := 640) (by decide +kernel)
theorem dX35_value_54 : decode cX35_value 54 = .ok (.invokevirtual 431, 3) := dc_182 (a := 1) (b := 175) (n := 431) (by decide +kernel)
theorem dX35_value_57 : decode cX35_value 57 = .ok (.ireturn, 1) := dc_172 (by decide +kernel)
def fX35_value_b57 (sN : Nat → eH → Option (Int32 × eH)) (s0 : Int32) (h : eH) : Option (Int32 × eH) :=
  some (s0, h)
theorem pX35_value_b57 {w : eW} {d : Nat} {dr : Nat} (hd : dr + 4 ≤ d + 1) (hdr : 12 ≤ dr) {sN : Nat → eH → Option (Int32 × eH)} (hsN : ∀ a h q, sN a h = some q → wm w dr YX35_number [.ref a] h (e_is (e_rn c_I q))) {s0 : Int32} {h : eH} {q} (hf : fX35_value_b57 sN s0 h = some q) : wp w (d + 1) YX35_value 57 [none, none, none] [.int s0] h (e_is (e_rn c_I q)) := by
  unfold fX35_value_b57 at hf
  cases hf
  exact w_iret dX35_value_57 rfl rfl rfl
def fX35_value (sN : Nat → eH → Option (Int32 × eH)) (this : Nat) (p0 : Int32) (h : eH) : Option (Int32 × eH) :=
  (k_ok 34 h this).bind fun _ =>
  (fX35_isNumber this p0 h).bind fun q2 =>
  if q2.1 = 0 then
    (k_ok 34 q2.2 this).bind fun _ =>
    (fX35_primitiveOf this p0 q2.2).bind fun q5 =>
    if ¬ q5.1 = (35 : Int32) then
      (k_ok 34 q5.2 this).bind fun _ =>
      (fX35_at sN this q5.1 q5.2).bind fun q8 =>
      (k_ok 34 q8.2 this).bind fun _ =>
      (fX35_now this q8.1 q8.2).bind fun q10 =>
      fX35_value_b57 sN q10.1 q10.2
    else
      (k_ok 34 q5.2 this).bind fun _ =>
      (fX35_small sN this (255 : Int32) q5.2).bind fun q12 =>
      (k_ok 34 q12.2 this).bind fun _ =>
      (fX35_now this ((1460 : Int32) + q12.1) q12.2).bind fun q14 =>
      fX35_value_b57 sN q14.1 q14.2
  else
    (k_ok 34 q2.2 this).bind fun _ =>
    (fX35_meaning this p0 q2.2).bind fun q16 =>
    some ((q16.1 - (3000000 : Int32)), q16.2)
theorem pX35_value {w : eW} {d : Nat} {dr : Nat} (hd : dr + 4 ≤ d) (hdr : 12 ≤ dr) {sN : Nat → eH → Option (Int32 × eH)} (hsN : ∀ a h q, sN a h = some q → wm w dr YX35_number [.ref a] h (e_is (e_rn c_I q))) {this : Nat} {p0 : Int32} {h : eH} {q} (hf : fX35_value sN this p0 h = some q) : wm w d YX35_value [.ref this, .int p0] h (e_is (e_rn c_I q)) := by
  obtain ⟨d, rfl⟩ : ∃ e, d = e + 1 := ⟨d - 1, by omega⟩
  show wp w (d + 1) YX35_value 0 [some (.ref this), some (.int p0), none] [] h _
  unfold fX35_value at hf
  refine w_aload_n dX35_value_0 rfl rfl ?_
  refine w_iload_n dX35_value_1 rfl rfl ?_
  obtain ⟨_, b1, hf⟩ := Option.bind_eq_some_iff.mp hf
  refine x_cnI hf (e_stV (Yc := YX35_isNumber) (ci := 34) (av := [.int p0]) (st := []) dX35_value_2 q5261 mX35_isNumber rfl (k_ok_some b1).1 (k_ok_some b1).2) mX35_isNumber.2.2.1 mX35_isNumber.2.2.2.2.1 (Nat.le_of_ble_eq_true rfl) (Nat.le_of_ble_eq_true rfl) (fun q hq => pX35_isNumber (by omega) hq) (fun q2 hf => ?_)
  refine w_if_eq 18 dX35_value_5 (by decide) (fun c3 => ?_) (fun c3 => ?_)
  · replace hf := (if_pos (show q2.1 = 0 from c3)).symm.trans hf
    refine w_aload_n dX35_value_18 rfl rfl ?_
    refine w_iload_n dX35_value_19 rfl rfl ?_
    obtain ⟨_, b4, hf⟩ := Option.bind_eq_some_iff.mp hf
    refine x_cnI hf (e_stV (Yc := YX35_primitiveOf) (ci := 34) (av := [.int p0]) (st := []) dX35_value_20 q5254 mX35_primitiveOf rfl (k_ok_some b4).1 (k_ok_some b4).2) mX35_primitiveOf.2.2.1 mX35_primitiveOf.2.2.2.2.1 (Nat.le_of_ble_eq_true rfl) (Nat.le_of_ble_eq_true rfl) (fun q hq => pX35_primitiveOf (by omega) hq) (fun q5 hf => ?_)
    refine w_istore_n dX35_value_23 rfl (by decide) (ls' := [some (.ref this), some (.int p0), some (.int q5.1)]) rfl ?_
    refine w_iload_n dX35_value_24 rfl rfl ?_
    refine w_bipush dX35_value_25 (v := 35) (by decide) ?_
    refine w_icmp_ne 48 dX35_value_27 (by decide) (fun c6 => ?_) (fun c6 => ?_)
    · replace hf := (if_pos (show ¬ q5.1 = (35 : Int32) from c6)).symm.trans hf
      refine w_aload_n dX35_value_48 rfl rfl ?_
      refine w_aload_n dX35_value_49 rfl rfl ?_
      refine w_iload_n dX35_value_50 rfl rfl ?_
      obtain ⟨_, b7, hf⟩ := Option.bind_eq_some_iff.mp hf
      refine x_cnI hf (e_stV (Yc := YX35_at) (ci := 34) (av := [.int q5.1]) (st := [.ref this]) dX35_value_51 q5275 mX35_at rfl (k_ok_some b7).1 (k_ok_some b7).2) mX35_at.2.2.1 mX35_at.2.2.2.2.1 (Nat.le_of_ble_eq_true rfl) (Nat.le_of_ble_eq_true rfl) (fun q hq => pX35_at (by omega) hdr hsN hq) (fun q8 hf => ?_)
      obtain ⟨_, b9, hf⟩ := Option.bind_eq_some_iff.mp hf
      refine x_cnI hf (e_stV (Yc := YX35_now) (ci := 34) (av := [.int q8.1]) (st := []) dX35_value_54 q5097 mX35_now rfl (k_ok_some b9).1 (k_ok_some b9).2) mX35_now.2.2.1 mX35_now.2.2.2.2.1 (Nat.le_of_ble_eq_true rfl) (Nat.le_of_ble_eq_true rfl) (fun q hq => pX35_now (by omega) hq) (fun q10 hf => ?_)
      exact (pX35_value_b57 hd hdr hsN hf).to trivial
    · replace hf := (if_neg (show ¬ (¬ q5.1 = (35 : Int32)) from (fun z => z c6))).symm.trans hf
      refine w_aload_n dX35_value_30 rfl rfl ?_
      refine w_sipush dX35_value_31 (v := 1460) (by decide) ?_
      refine w_aload_n dX35_value_34 rfl rfl ?_
      refine w_sipush dX35_value_35 (v := 255) (by decide) ?_
      obtain ⟨_, b11, hf⟩ := Option.bind_eq_some_iff.mp hf
      refine x_cnI hf (e_stV (Yc := YX35_small) (ci := 34) (av := [.int (255 : Int32)]) (st := [.int (1460 : Int32), .ref this]) dX35_value_38 q5271 mX35_small rfl (k_ok_some b11).1 (k_ok_some b11).2) mX35_small.2.2.1 mX35_small.2.2.2.2.1 (Nat.le_of_ble_eq_true rfl) (Nat.le_of_ble_eq_true rfl) (fun q hq => pX35_small (by omega) hdr hsN hq) (fun q12 hf => ?_)
      refine w_iadd dX35_value_41 ?_
      obtain ⟨_, b13, hf⟩ := Option.bind_eq_some_iff.mp hf
      refine x_cnI hf (e_stV (Yc := YX35_now) (ci := 34) (av := [.int ((1460 : Int32) + q12.1)]) (st := []) dX35_value_42 q5097 mX35_now rfl (k_ok_some b13).1 (k_ok_some b13).2) mX35_now.2.2.1 mX35_now.2.2.2.2.1 (Nat.le_of_ble_eq_true rfl) (Nat.le_of_ble_eq_true rfl) (fun q hq => pX35_now (by omega) hq) (fun q14 hf => ?_)
      refine w_goto 57 dX35_value_45 (by decide) ?_
      exact (pX35_value_b57 hd hdr hsN hf).to trivial
  · replace hf := (if_neg (show ¬ (q2.1 = 0) from c3)).symm.trans hf
    refine w_aload_n dX35_value_8 rfl rfl ?_
    refine w_iload_n dX35_value_9 rfl rfl ?_
    obtain ⟨_, b15, hf⟩ := Option.bind_eq_some_iff.mp hf
    refine x_cnI hf (e_stV (Yc := YX35_meaning) (ci := 34) (av := [.int p0]) (st := []) dX35_value_10 q5130 mX35_meaning rfl (k_ok_some b15).1 (k_ok_some b15).2) mX35_meaning.2.2.1 mX35_meaning.2.2.2.2.1 (Nat.le_of_ble_eq_true rfl) (Nat.le_of_ble_eq_true rfl) (fun q hq => pX35_meaning (by omega) hq) (fun q16 hf => ?_)
    refine w_ldc_w dX35_value_13 q5265 ?_
    refine w_isub dX35_value_16 ?_
    cases hf
    exact w_iret dX35_value_17 rfl rfl rfl
abbrev cX35_factor : ByteArray := prog_37_method_87_code
def yX35_factor : MethodName := ⟨RX35, "factor", "(I)V"⟩
def YX35_factor : eY := (yX35_factor, cX35_factor, 7, none, [])
theorem mX35_factor : e_mv YX35_factor RX35 1 := ⟨q5343, qs292, q5344, by decide, by decide +kernel, (e_sig (by decide +kernel))⟩
theorem dX35_factor_0 : decode cX35_factor 0 = .ok (.lconst 0, 1) := dc_9 (by decide +kernel)
theorem dX35_factor_1 : decode cX35_factor 1 = .ok (.lstore_n 2, 1) := dc_65 (by decide +kernel)
theorem dX35_factor_2 : decode cX35_factor 2 = .ok (.lconst 1, 1) := dc_10 (by decide +kernel)
theorem dX35_factor_3 : decode cX35_factor 3 = .ok (.lstore 4, 2) := dc_55 (a := 4) (by decide +kernel)
theorem dX35_factor_5 : decode cX35_factor 5 = .ok (.iload_n 1, 1) := dc_27 (by decide +kernel)
theorem dX35_factor_6 : decode cX35_factor 6 = .ok (.invokestatic 643, 3) := dc_184 (a := 2) (b := 131) (n := 643) (by decide +kernel)
theorem dX35_factor_9 : decode cX35_factor 9 = .ok (.ifCond .ne 25, 3) := dc_154 (a := 0) (b := 25) (v := 25) (by decide +kernel)
theorem dX35_factor_12 : decode cX35_factor 12 = .ok (.iload_n 1, 1) := dc_27 (by decide +kernel)
theorem dX35_factor_13 : decode cX35_factor 13 = .ok (.bipush 12, 2) := dc_16 (a := 12) (v := 12) (by decide +kernel)
theorem dX35_factor_15 : decode cX35_factor 15 = .ok (.bipush 46, 2) := dc_16 (a := 46) (v := 46) (by decide +kernel)
theorem dX35_factor_17 : decode cX35_factor 17 = .ok (.invokestatic 610, 3) := dc_184 (a := 2) (b := 98) (n := 610) (by decide +kernel)
theorem dX35_factor_20 : decode cX35_factor 20 = .ok (.ifCond .ne 14, 3) := dc_154 (a := 0) (b := 14) (v := 14) (by decide +kernel)
theorem dX35_factor_23 : decode cX35_factor 23 = .ok (.iload_n 1, 1) := dc_27 (by decide +kernel)
theorem dX35_factor_24 : decode cX35_factor 24 = .ok (.bipush 12, 2) := dc_16 (a := 12) (v := 12) (by decide +kernel)
theorem dX35_factor_26 : decode cX35_factor 26 = .ok (.bipush 44, 2) := dc_16 (a := 44) (v := 44) (by decide +kernel)
theorem dX35_factor_28 : decode cX35_factor 28 = .ok (.invokestatic 610, 3) := dc_184 (a := 2) (b := 98) (n := 610) (by decide +kernel)
theorem dX35_factor_31 : decode cX35_factor 31 = .ok (.ifCond .eq 166, 3) := dc_153 (a := 0) (b := 166) (v := 166) (by decide +kernel)
theorem dX35_factor_34 : decode cX35_factor 34 = .ok (.iload_n 1, 1) := dc_27 (by decide +kernel)
theorem dX35_factor_35 : decode cX35_factor 35 = .ok (.istore 6, 2) := dc_54 (a := 6) (by decide +kernel)
theorem dX35_factor_37 : decode cX35_factor 37 = .ok (.iload 6, 2) := dc_21 (a := 6) (by decide +kernel)
theorem dX35_factor_39 : decode cX35_factor 39 = .ok (.invokestatic 643, 3) := dc_184 (a := 2) (b := 131) (n := 643) (by decide +kernel)
theorem dX35_factor_42 : decode cX35_factor 42 = .ok (.ifCond .eq 51, 3) := dc_153 (a := 0) (b := 51) (v := 51) (by decide +kernel)
theorem dX35_factor_45 : decode cX35_factor 45 = .ok (.aload_n 0, 1) := dc_42 (by decide +kernel)
theorem dX35_factor_46 : decode cX35_factor 46 = .ok (.getfield 321, 3) := dc_180 (a := 1) (b := 65) (n := 321) (by decide +kernel)
theorem dX35_factor_49 : decode cX35_factor 49 = .ok (.ifCond .ne 44, 3) := dc_154 (a := 0) (b := 44) (v := 44) (by decide +kernel)
theorem dX35_factor_52 : decode cX35_factor 52 = .ok (.ldc2_w 562, 3) := dc_20 (a := 2) (b := 50) (n := 562) (by decide +kernel)
theorem dX35_factor_55 : decode cX35_factor 55 = .ok (.lload_n 2, 1) := dc_32 (by decide +kernel)
theorem dX35_factor_56 : decode cX35_factor 56 = .ok (.lmul, 1) := dc_105 (by decide +kernel)
theorem dX35_factor_57 : decode cX35_factor 57 = .ok (.iload 6, 2) := dc_21 (a := 6) (by decide +kernel)
theorem dX35_factor_59 : decode cX35_factor 59 = .ok (.sipush 256, 3) := dc_17 (a := 1) (b := 0) (v := 256) (by decide +kernel)
theorem dX35_factor_62 : decode cX35_factor 62 = .ok (.irem, 1) := dc_112 (by decide +kernel)
theorem dX35_factor_63 : decode cX35_factor 63 = .ok (.i2l, 1) := dc_133 (by decide +kernel)
theorem dX35_factor_64 : decode cX35_factor 64 = .ok (.ladd, 1) := dc_97 (by decide +kernel)
theorem dX35_factor_65 : decode cX35_factor 65 = .ok (.ldc2_w 560, 3) := dc_20 (a := 2) (b := 48) (n := 560) (by decide +kernel)
theorem dX35_factor_68 : decode cX35_factor 68 = .ok (.lsub, 1) := dc_101 (by decide +kernel)
theorem dX35_factor_69 : decode cX35_factor 69 = .ok (.lstore_n 2, 1) := dc_65 (by decide +kernel)
theorem dX35_factor_70 : decode cX35_factor 70 = .ok (.lload_n 2, 1) := dc_32 (by decide +kernel)
theorem dX35_factor_71 : decode cX35_factor 71 = .ok (.ldc2_w 646, 3) := dc_20 (a := 2) (b := 134) (n := 646) (by decide +kernel)
theorem dX35_factor_74 : decode cX35_factor 74 = .ok (.lcmp, 1) := dc_148 (by decide +kernel)
theorem dX35_factor_75 : decode cX35_factor 75 = .ok (.ifCond .le 9, 3) := dc_158 (a := 0) (b := 9) (v := 9) (by decide +kernel)
theorem dX35_factor_78 : decode cX35_factor 78 = .ok (.aload_n 0, 1) := dc_42 (by decide +kernel)
theorem dX35_factor_79 : decode cX35_factor 79 = .ok (.bipush 7, 2) := dc_16 (a := 7) (v := 7) (by decide +kernel)
theorem dX35_factor_81 : decode cX35_factor 81 = .ok (.invokevirtual 428, 3) := dc_182 (a := 1) (b := 172) (n := 428) (by decide +kernel)
theorem dX35_factor_84 : decode cX35_factor 84 = .ok (.aload_n 0, 1) := dc_42 (by decide +kernel)
theorem dX35_factor_85 : decode cX35_factor 85 = .ok (.invokevirtual 487, 3) := dc_182 (a := 1) (b := 231) (n := 487) (by decide +kernel)
theorem dX35_factor_88 : decode cX35_factor 88 = .ok (.istore 6, 2) := dc_54 (a := 6) (by decide +kernel)
theorem dX35_factor_90 : decode cX35_factor 90 = .ok (.goto (-53), 3) := dc_167 (a := 255) (b := 203) (v := -53) (by decide +kernel)
theorem dX35_factor_93 : decode cX35_factor 93 = .ok (.iload 6, 2) := dc_21 (a := 6) (by decide +kernel)
theorem dX35_factor_95 : decode cX35_factor 95 = .ok (.bipush 12, 2) := dc_16 (a := 12) (v := 12) (by decide +kernel)
theorem dX35_factor_97 : decode cX35_factor 97 = .ok (.bipush 46, 2) := dc_16 (a := 46) (v := 46) (by decide +kernel)
theorem dX35_factor_99 : decode cX35_factor 99 = .ok (.invokestatic 610, 3) := dc_184 (a := 2) (b := 98) (n := 610) (by decide +kernel)
theorem dX35_factor_102 : decode cX35_factor 102 = .ok (.ifCond .ne 15, 3) := dc_154 (a := 0) (b := 15) (v := 15) (by decide +kernel)
theorem dX35_factor_105 : decode cX35_factor 105 = .ok (.iload 6, 2) := dc_21 (a := 6) (by decide +kernel)
theorem dX35_factor_107 : decode cX35_factor 107 = .ok (.bipush 12, 2) := dc_16 (a := 12) (v := 12) (by decide +kernel)
theorem dX35_factor_109 : decode cX35_factor 109 = .ok (.bipush 44, 2) := dc_16 (a := 44) (v := 44) (by decide +kernel)
theorem dX35_factor_111 : decode cX35_factor 111 = .ok (.invokestatic 610, 3) := dc_184 (a := 2) (b := 98) (n := 610) (by decide +kernel)
theorem dX35_factor_114 : decode cX35_factor 114 = .ok (.ifCond .eq 74, 3) := dc_153 (a := 0) (b := 74) (v := 74) (by decide +kernel)
theorem dX35_factor_117 : decode cX35_factor 117 = .ok (.aload_n 0, 1) := dc_42 (by decide +kernel)
theorem dX35_factor_118 : decode cX35_factor 118 = .ok (.invokevirtual 487, 3) := dc_182 (a := 1) (b := 231) (n := 487) (by decide +kernel)
theorem dX35_factor_121 : decode cX35_factor 121 = .ok (.istore 6, 2) := dc_54 (a := 6) (by decide +kernel)
theorem dX35_factor_123 : decode cX35_factor 123 = .ok (.iload 6, 2) := dc_21 (a := 6) (by decide +kernel)
theorem dX35_factor_125 : decode cX35_factor 125 = .ok (.invokestatic 643, 3) := dc_184 (a := 2) (b := 131) (n := 643) (by decide +kernel)
theorem dX35_factor_128 : decode cX35_factor 128 = .ok (.ifCond .eq 60, 3) := dc_153 (a := 0) (b := 60) (v := 60) (by decide +kernel)
theorem dX35_factor_131 : decode cX35_factor 131 = .ok (.aload_n 0, 1) := dc_42 (by decide +kernel)
theorem dX35_factor_132 : decode cX35_factor 132 = .ok (.getfield 321, 3) := dc_180 (a := 1) (b := 65) (n := 321) (by decide +kernel)
theorem dX35_factor_135 : decode cX35_factor 135 = .ok (.ifCond .ne 53, 3) := dc_154 (a := 0) (b := 53) (v := 53) (by decide +kernel)
theorem dX35_factor_138 : decode cX35_factor 138 = .ok (.lload 4, 2) := dc_22 (a := 4) (by decide +kernel)
theorem dX35_factor_140 : decode cX35_factor 140 = .ok (.ldc2_w 672, 3) := dc_20 (a := 2) (b := 160) (n := 672) (by decide +kernel)
theorem dX35_factor_143 : decode cX35_factor 143 = .ok (.lcmp, 1) := dc_148 (by decide +kernel)
theorem dX35_factor_144 : decode cX35_factor 144 = .ok (.ifCond .ne 9, 3) := dc_154 (a := 0) (b := 9) (v := 9) (by decide +kernel)
theorem dX35_factor_147 : decode cX35_factor 147 = .ok (.aload_n 0, 1) := dc_42 (by decide +kernel)
theorem dX35_factor_148 : decode cX35_factor 148 = .ok (.bipush 7, 2) := dc_16 (a := 7) (v := 7) (by decide +kernel)
theorem dX35_factor_150 : decode cX35_factor 150 = .ok (.invokevirtual 428, 3) := dc_182 (a := 1) (b := 172) (n := 428) (by decide +kernel)
theorem dX35_factor_153 : decode cX35_factor 153 = .ok (.ldc2_w 562, 3) := dc_20 (a := 2) (b := 50) (n := 562) (by decide +kernel)
theorem dX35_factor_156 : decode cX35_factor 156 = .ok (.lload_n 2, 1) := dc_32 (by decide +kernel)
theorem dX35_factor_157 : decode cX35_factor 157 = .ok (.lmul, 1) := dc_105 (by decide +kernel)
theorem dX35_factor_158 : decode cX35_factor 158 = .ok (.iload 6, 2) := dc_21 (a := 6) (by decide +kernel)
theorem dX35_factor_160 : decode cX35_factor 160 = .ok (.sipush 256, 3) := dc_17 (a := 1) (b := 0) (v := 256) (by decide +kernel)
theorem dX35_factor_163 : decode cX35_factor 163 = .ok (.irem, 1) := dc_112 (by decide +kernel)
theorem dX35_factor_164 : decode cX35_factor 164 = .ok (.i2l, 1) := dc_133 (by decide +kernel)
theorem dX35_factor_165 : decode cX35_factor 165 = .ok (.ladd, 1) := dc_97 (by decide +kernel)
theorem dX35_factor_166 : decode cX35_factor 166 = .ok (.ldc2_w 560, 3) := dc_20 (a := 2) (b := 48) (n := 560) (by decide +kernel)
theorem dX35_factor_169 : decode cX35_factor 169 = .ok (.lsub, 1) := dc_101 (by decide +kernel)
theorem dX35_factor_170 : decode cX35_factor 170 = .ok (.lstore_n 2, 1) := dc_65 (by decide +kernel)
theorem dX35_factor_171 : decode cX35_factor 171 = .ok (.ldc2_w 562, 3) := dc_20 (a := 2) (b := 50) (n := 562) (by decide +kernel)
theorem dX35_factor_174 : decode cX35_factor 174 = .ok (.lload 4, 2) := dc_22 (a := 4) (by decide +kernel)
theorem dX35_factor_176 : decode cX35_factor 176 = .ok (.lmul, 1) := dc_105 (by decide +kernel)
theorem dX35_factor_177 : decode cX35_factor 177 = .ok (.lstore 4, 2) := dc_55 (a := 4) (by decide +kernel)
theorem dX35_factor_179 : decode cX35_factor 179 = .ok (.aload_n 0, 1) := dc_42 (by decide +kernel)
theorem dX35_factor_180 : decode cX35_factor 180 = .ok (.invokevirtual 487, 3) := dc_182 (a := 1) (b := 231) (n := 487) (by decide +kernel)
theorem dX35_factor_183 : decode cX35_factor 183 = .ok (.istore 6, 2) := dc_54 (a := 6) (by decide +kernel)
theorem dX35_factor_185 : decode cX35_factor 185 = .ok (.goto (-62), 3) := dc_167 (a := 255) (b := 194) (v := -62) (by decide +kernel)
theorem dX35_factor_188 : decode cX35_factor 188 = .ok (.aload_n 0, 1) := dc_42 (by decide +kernel)
theorem dX35_factor_189 : decode cX35_factor 189 = .ok (.iload 6, 2) := dc_21 (a := 6) (by decide +kernel)
theorem dX35_factor_191 : decode cX35_factor 191 = .ok (.invokevirtual 509, 3) := dc_182 (a := 1) (b := 253) (n := 509) (by decide +kernel)
theorem dX35_factor_194 : decode cX35_factor 194 = .ok (.goto 47, 3) := dc_167 (a := 0) (b := 47) (v := 47) (by decide +kernel)
theorem dX35_factor_197 : decode cX35_factor 197 = .ok (.iload_n 1, 1) := dc_27 (by decide +kernel)
theorem dX35_factor_198 : decode cX35_factor 198 = .ok (.bipush 12, 2) := dc_16 (a := 12) (v := 12) (by decide +kernel)
theorem dX35_factor_200 : decode cX35_factor 200 = .ok (.bipush 96, 2) := dc_16 (a := 96) (v := 96) (by decide +kernel)
theorem dX35_factor_202 : decode cX35_factor 202 = .ok (.invokestatic 610, 3) := dc_184 (a := 2) (b := 98) (n := 610) (by decide +kernel)
theorem dX35_factor_205 : decode cX35_factor 205 = .ok (.ifCond .eq 12, 3) := dc_153 (a := 0) (b := 12) (v := 12) (by decide +kernel)
theorem dX35_factor_208 : decode cX35_factor 208 = .ok (.aload_n 0, 1) := dc_42 (by decide +kernel)
theorem dX35_factor_209 : decode cX35_factor 209 = .ok (.invokevirtual 666, 3) := dc_182 (a := 2) (b := 154) (n := 666) (by decide +kernel)
theorem dX35_factor_212 : decode cX35_factor 212 = .ok (.i2l, 1) := dc_133 (by decide +kernel)
theorem dX35_factor_213 : decode cX35_factor 213 = .ok (.lstore_n 2, 1) := dc_65 (by decide +kernel)
theorem dX35_factor_214 : decode cX35_factor 214 = .ok (.goto 27, 3) := dc_167 (a := 0) (b := 27) (v := 27) (by decide +kernel)
theorem dX35_factor_217 : decode cX35_factor 217 = .ok (.aload_n 0, 1) := dc_42 (by decide +kernel)
theorem dX35_factor_218 : decode cX35_factor 218 = .ok (.iload_n 1, 1) := dc_27 (by decide +kernel)
theorem dX35_factor_219 : decode cX35_factor 219 = .ok (.invokevirtual 536, 3) := dc_182 (a := 2) (b := 24) (n := 536) (by decide +kernel)
theorem dX35_factor_222 : decode cX35_factor 222 = .ok (.ifCond .eq 13, 3) := dc_153 (a := 0) (b := 13) (v := 13) (by decide +kernel)
theorem dX35_factor_225 : decode cX35_factor 225 = .ok (.aload_n 0, 1) := dc_42 (by decide +kernel)
theorem dX35_factor_226 : decode cX35_factor 226 = .ok (.iload_n 1, 1) := dc_27 (by decide +kernel)
theorem dX35_factor_227 : decode cX35_factor 227 = .ok (.invokevirtual 539, 3) := dc_182 (a := 2) (b := 27) (n := 539) (by decide +kernel)
theorem dX35_factor_230 : decode cX35_factor 230 = .ok (.i2l, 1) := dc_133 (by decide +kernel)
theorem dX35_factor_231 : decode cX35_factor 231 = .ok (.lstore_n 2, 1) := dc_65 (by decide +kernel)
theorem dX35_factor_232 : decode cX35_factor 232 = .ok (.goto 9, 3) := dc_167 (a := 0) (b := 9) (v := 9) (by decide +kernel)
theorem dX35_factor_235 : decode cX35_factor 235 = .ok (.aload_n 0, 1) := dc_42 (by decide +kernel)
theorem dX35_factor_236 : decode cX35_factor 236 = .ok (.bipush 6, 2) := dc_16 (a := 6) (v := 6) (by decide +kernel)
theorem dX35_factor_238 : decode cX35_factor 238 = .ok (.invokevirtual 428, 3) := dc_182 (a := 1) (b := 172) (n := 428) (by decide +kernel)
theorem dX35_factor_241 : decode cX35_factor 241 = .ok (.aload_n 0, 1) := dc_42 (by decide +kernel)
theorem dX35_factor_242 : decode cX35_factor 242 = .ok (.lload_n 2, 1) := dc_32 (by decide +kernel)
theorem dX35_factor_243 : decode cX35_factor 243 = .ok (.putfield 674, 3) := dc_181 (a := 2) (b := 162) (n := 674) (by decide +kernel)
theorem dX35_factor_246 : decode cX35_factor 246 = .ok (.aload_n 0, 1) := dc_42 (by decide +kernel)
theorem dX35_factor_247 : decode cX35_factor 247 = .ok (.lload 4, 2) := dc_22 (a := 4) (by decide +kernel)
theorem dX35_factor_249 : decode cX35_factor 249 = .ok (.putfield 678, 3) := dc_181 (a := 2) (b := 166) (n := 678) (by decide +kernel)
theorem dX35_factor_252 : decode cX35_factor 252 = .ok (.return_, 1) := dc_177 (by decide +kernel)
theorem SX35_674 {w : eW} {d : Nat} {Y : eY} {pc : Nat} {ls : eL} {st : List Value} {h : eH} {Q : eO → eH → Prop} {a : Nat} {h' : eH} {x : Int64} (hf : p_V 34 h a 118 (.long x) = some h') (hd : decode Y.2.1 pc = .ok (.putfield 674, 3)) (hY : Y.1.cls = RX35) (kk : wp w d Y (pc + 3) ls st h' Q) : wp w d Y pc ls (.long x :: .ref a :: st) h Q := x_pJ (ci := 34) (k := 118) hf hd rfl (by decide) (by rw [hY]; exact q4619) rfl rfl kk
theorem SX35_678 {w : eW} {d : Nat} {Y : eY} {pc : Nat} {ls : eL} {st : List Value} {h : eH} {Q : eO → eH → Prop} {a : Nat} {h' : eH} {x : Int64} (hf : p_V 34 h a 119 (.long x) = some h') (hd : decode Y.2.1 pc = .ok (.putfield 678, 3)) (hY : Y.1.cls = RX35) (kk : wp w d Y (pc + 3) ls st h' Q) : wp w d Y pc ls (.long x :: .ref a :: st) h Q := x_pJ (ci := 34) (k := 119) hf hd rfl (by decide) (by rw [hY]; exact q4620) rfl rfl kk
def fX35_factor_b84 (N : Nat) (sE : Nat → Int32 → eH → Option (Unit × eH)) (sN : Nat → eH → Option (Int32 × eH)) (k37 : Nat → Int64 → Int64 → Int32 → eH → Option (Unit × eH)) (l0 : Nat) (l2 : Int64) (l4 : Int64) (h : eH) : Option (Unit × eH) :=
  (k_ok 34 h l0).bind fun _ =>
  (fX35_getExpanded N sE l0 h).bind fun q2 =>
  k37 l0 l2 l4 q2.1 q2.2
theorem pX35_factor_b84 {w : eW} {d : Nat} {dr : Nat} (hd : dr + 8 ≤ d + 1) (hdr : 12 ≤ dr) {N : Nat} {sE : Nat → Int32 → eH → Option (Unit × eH)} {sN : Nat → eH → Option (Int32 × eH)} (hsE : ∀ a t0 h q, sE a t0 h = some q → wm w dr YX35_expand [.ref a, .int t0] h (e_is (e_rn c_V q))) (hsN : ∀ a h q, sN a h = some q → wm w dr YX35_number [.ref a] h (e_is (e_rn c_I q))) {k37 : Nat → Int64 → Int64 → Int32 → eH → Option (Unit × eH)} (hk37 : ∀ l0 l2 l4 l6 h q, k37 l0 l2 l4 l6 h = some q → wp w (d + 1) YX35_factor 37 [some (.ref l0), none, some (.long l2), none, some (.long l4), none, some (.int l6)] [] h (e_is (e_rn c_V q))) {l0 : Nat} {l2 : Int64} {l4 : Int64} {h : eH} {q} (hf : fX35_factor_b84 N sE sN k37 l0 l2 l4 h = some q) : wp w (d + 1) YX35_factor 84 [some (.ref l0), none, some (.long l2), none, some (.long l4), none, none] [] h (e_is (e_rn c_V q)) := by
  unfold fX35_factor_b84 at hf
  refine w_aload_n dX35_factor_84 rfl rfl ?_
  obtain ⟨_, b1, hf⟩ := Option.bind_eq_some_iff.mp hf
  refine x_cnI hf (e_stV (Yc := YX35_getExpanded) (ci := 34) (av := []) (st := []) dX35_factor_85 q5077 mX35_getExpanded rfl (k_ok_some b1).1 (k_ok_some b1).2) mX35_getExpanded.2.2.1 mX35_getExpanded.2.2.2.2.1 (Nat.le_of_ble_eq_true rfl) (Nat.le_of_ble_eq_true rfl) (fun q hq => pX35_getExpanded (by omega) hdr hsE hq) (fun q2 hf => ?_)
  refine w_istore dX35_factor_88 (by decide) (ls' := [some (.ref l0), none, some (.long l2), none, some (.long l4), none, some (.int q2.1)]) rfl ?_
  refine w_goto 37 dX35_factor_90 (by decide) ?_
  exact (hk37 _ _ _ _ _ _ hf).to ⟨rfl, rfl, rfl, rfl, trivial⟩
def fX35_factor_b153 (N : Nat) (sE : Nat → Int32 → eH → Option (Unit × eH)) (sN : Nat → eH → Option (Int32 × eH)) (k123 : Nat → Int64 → Int64 → Int32 → eH → Option (Unit × eH)) (l0 : Nat) (l2 : Int64) (l4 : Int64) (l6 : Int32) (h : eH) : Option (Unit × eH) :=
  (k_ok 34 h l0).bind fun _ =>
  (fX35_getExpanded N sE l0 h).bind fun q2 =>
  k123 l0 ((((10 : Int64) * l2) + ((l6 - l6 / (256 : Int32) * (256 : Int32))).toInt64) - (48 : Int64)) ((10 : Int64) * l4) q2.1 q2.2
theorem pX35_factor_b153 {w : eW} {d : Nat} {dr : Nat} (hd : dr + 8 ≤ d + 1) (hdr : 12 ≤ dr) {N : Nat} {sE : Nat → Int32 → eH → Option (Unit × eH)} {sN : Nat → eH → Option (Int32 × eH)} (hsE : ∀ a t0 h q, sE a t0 h = some q → wm w dr YX35_expand [.ref a, .int t0] h (e_is (e_rn c_V q))) (hsN : ∀ a h q, sN a h = some q → wm w dr YX35_number [.ref a] h (e_is (e_rn c_I q))) {k123 : Nat → Int64 → Int64 → Int32 → eH → Option (Unit × eH)} (hk123 : ∀ l0 l2 l4 l6 h q, k123 l0 l2 l4 l6 h = some q → wp w (d + 1) YX35_factor 123 [some (.ref l0), none, some (.long l2), none, some (.long l4), none, some (.int l6)] [] h (e_is (e_rn c_V q))) {l0 : Nat} {l2 : Int64} {l4 : Int64} {l6 : Int32} {h : eH} {q} (hf : fX35_factor_b153 N sE sN k123 l0 l2 l4 l6 h = some q) : wp w (d + 1) YX35_factor 153 [some (.ref l0), none, some (.long l2), none, some (.long l4), none, some (.int l6)] [] h (e_is (e_rn c_V q)) := by
  unfold fX35_factor_b153 at hf
  refine w_ldc2 dX35_factor_153 q5239 ?_
  refine w_lload_n dX35_factor_156 rfl rfl ?_
  refine w_lmul dX35_factor_157 ?_
  refine w_iload dX35_factor_158 rfl ?_
  refine w_sipush dX35_factor_160 (v := 256) (by decide) ?_
  refine w_irem dX35_factor_163 (by decide) ?_
  refine w_i2l dX35_factor_164 ?_
  refine w_ladd dX35_factor_165 ?_
  refine w_ldc2 dX35_factor_166 q5240 ?_
  refine w_lsub dX35_factor_169 ?_
  refine w_lstore_n dX35_factor_170 rfl (by decide) (ls' := [some (.ref l0), none, some (.long ((((10 : Int64) * l2) + ((l6 - l6 / (256 : Int32) * (256 : Int32))).toInt64) - (48 : Int64))), none, some (.long l4), none, some (.int l6)]) rfl ?_
  refine w_ldc2 dX35_factor_171 q5239 ?_
  refine w_lload dX35_factor_174 rfl ?_
  refine w_lmul dX35_factor_176 ?_
  refine w_lstore dX35_factor_177 (by decide) (ls' := [some (.ref l0), none, some (.long ((((10 : Int64) * l2) + ((l6 - l6 / (256 : Int32) * (256 : Int32))).toInt64) - (48 : Int64))), none, some (.long ((10 : Int64) * l4)), none, some (.int l6)]) rfl ?_
  refine w_aload_n dX35_factor_179 rfl rfl ?_
  obtain ⟨_, b1, hf⟩ := Option.bind_eq_some_iff.mp hf
  refine x_cnI hf (e_stV (Yc := YX35_getExpanded) (ci := 34) (av := []) (st := []) dX35_factor_180 q5077 mX35_getExpanded rfl (k_ok_some b1).1 (k_ok_some b1).2) mX35_getExpanded.2.2.1 mX35_getExpanded.2.2.2.2.1 (Nat.le_of_ble_eq_true rfl) (Nat.le_of_ble_eq_true rfl) (fun q hq => pX35_getExpanded (by omega) hdr hsE hq) (fun q2 hf => ?_)
  refine w_istore dX35_factor_183 (by decide) (ls' := [some (.ref l0), none, some (.long ((((10 : Int64) * l2) + ((l6 - l6 / (256 : Int32) * (256 : Int32))).toInt64) - (48 : Int64))), none, some (.long ((10 : Int64) * l4)), none, some (.int q2.1)]) rfl ?_
  refine w_goto 123 dX35_factor_185 (by decide) ?_
  exact (hk123 _ _ _ _ _ _ hf).to ⟨rfl, rfl, rfl, rfl, trivial⟩
def fX35_factor_b241 (N : Nat) (sE : Nat → Int32 → eH → Option (Unit × eH)) (sN : Nat → eH → Option (Int32 × eH)) (l0 : Nat) (l2 : Int64) (l4 : Int64) (h : eH) : Option (Unit × eH) :=
  (p_V 34 h l0 118 (.long l2)).bind fun h1 =>
  (p_V 34 h1 l0 119 (.long l4)).bind fun h3 =>
  some ((), h3)
theorem pX35_factor_b241 {w : eW} {d : Nat} {dr : Nat} (hd : dr + 8 ≤ d + 1) (hdr : 12 ≤ dr) {N : Nat} {sE : Nat → Int32 → eH → Option (Unit × eH)} {sN : Nat → eH → Option (Int32 × eH)} (hsE : ∀ a t0 h q, sE a t0 h = some q → wm w dr YX35_expand [.ref a, .int t0] h (e_is (e_rn c_V q))) (hsN : ∀ a h q, sN a h = some q → wm w dr YX35_number [.ref a] h (e_is (e_rn c_I q))) {l0 : Nat} {l2 : Int64} {l4 : Int64} {h : eH} {q} (hf : fX35_factor_b241 N sE sN l0 l2 l4 h = some q) : wp w (d + 1) YX35_factor 241 [some (.ref l0), none, some (.long l2), none, some (.long l4), none, none] [] h (e_is (e_rn c_V q)) := by
  unfold fX35_factor_b241 at hf
  refine w_aload_n dX35_factor_241 rfl rfl ?_
  refine w_lload_n dX35_factor_242 rfl rfl ?_
  obtain ⟨h1, b2, hf⟩ := Option.bind_eq_some_iff.mp hf
  refine SX35_674 b2 dX35_factor_243 rfl ?_
  refine w_aload_n dX35_factor_246 rfl rfl ?_
  refine w_lload dX35_factor_247 rfl ?_
  obtain ⟨h3, b4, hf⟩ := Option.bind_eq_some_iff.mp hf
  refine SX35_678 b4 dX35_factor_249 rfl ?_
  cases hf
  exact w_vret dX35_factor_252 rfl rfl
def fX35_factor_b188 (N : Nat) (sE : Nat → Int32 → eH → Option (Unit × eH)) (sN : Nat → eH → Option (Int32 × eH)) (l0 : Nat) (l2 : Int64) (l4 : Int64) (l6 : Int32) (h : eH) : Option (Unit × eH) :=
  (k_ok 34 h l0).bind fun _ =>
  (fX35_put l0 l6 h).bind fun q2 =>
  fX35_factor_b241 N sE sN l0 l2 l4 q2.2
theorem pX35_factor_b188 {w : eW} {d : Nat} {dr : Nat} (hd : dr + 8 ≤ d + 1) (hdr : 12 ≤ dr) {N : Nat} {sE : Nat → Int32 → eH → Option (Unit × eH)} {sN : Nat → eH → Option (Int32 × eH)} (hsE : ∀ a t0 h q, sE a t0 h = some q → wm w dr YX35_expand [.ref a, .int t0] h (e_is (e_rn c_V q))) (hsN : ∀ a h q, sN a h = some q → wm w dr YX35_number [.ref a] h (e_is (e_rn c_I q))) {l0 : Nat} {l2 : Int64} {l4 : Int64} {l6 : Int32} {h : eH} {q} (hf : fX35_factor_b188 N sE sN l0 l2 l4 l6 h = some q) : wp w (d + 1) YX35_factor 188 [some (.ref l0), none, some (.long l2), none, some (.long l4), none, some (.int l6)] [] h (e_is (e_rn c_V q)) := by
  unfold fX35_factor_b188 at hf
  refine w_aload_n dX35_factor_188 rfl rfl ?_
  refine w_iload dX35_factor_189 rfl ?_
  obtain ⟨_, b1, hf⟩ := Option.bind_eq_some_iff.mp hf
  refine x_cnV hf (e_stV (Yc := YX35_put) (ci := 34) (av := [.int l6]) (st := []) dX35_factor_191 q5181 mX35_put rfl (k_ok_some b1).1 (k_ok_some b1).2) mX35_put.2.2.1 mX35_put.2.2.2.2.1 (Nat.le_of_ble_eq_true rfl) (Nat.le_of_ble_eq_true rfl) (fun q hq => pX35_put (by omega) hq) (fun q2 hf => ?_)
  refine w_goto 241 dX35_factor_194 (by decide) ?_
  exact (pX35_factor_b241 hd hdr hsE hsN hf).to ⟨rfl, rfl, rfl, trivial⟩
def fX35_factor_b123 (N : Nat) (sE : Nat → Int32 → eH → Option (Unit × eH)) (sN : Nat → eH → Option (Int32 × eH)) : Nat → Nat → Int64 → Int64 → Int32 → eH → Option (Unit × eH)
  | 0, _, _, _, _, _ => none
  | n + 1, l0, l2, l4, l6, h =>
    (fX35_isDigit l6 h).bind fun q1 =>
    if q1.1 = 0 then
      fX35_factor_b188 N sE sN l0 l2 l4 l6 q1.2
    else
      (g_I 34 q1.2 l0 46).bind fun x3 =>
      if ¬ x3 = 0 then
        fX35_factor_b188 N sE sN l0 l2 l4 l6 q1.2
      else
        if ¬ (lg_cmp l4 (10000 : Int64)) = 0 then
          fX35_factor_b153 N sE sN (fX35_factor_b123 N sE sN n) l0 l2 l4 l6 q1.2
        else
          (k_ok 34 q1.2 l0).bind fun _ =>
          (fX35_fail l0 (7 : Int32) q1.2).bind fun q8 =>
          fX35_factor_b153 N sE sN (fX35_factor_b123 N sE sN n) l0 l2 l4 l6 q8.2
theorem pX35_factor_b123 {w : eW} {d : Nat} {dr : Nat} (hd : dr + 8 ≤ d + 1) (hdr : 12 ≤ dr) {N : Nat} {sE : Nat → Int32 → eH → Option (Unit × eH)} {sN : Nat → eH → Option (Int32 × eH)} (hsE : ∀ a t0 h q, sE a t0 h = some q → wm w dr YX35_expand [.ref a, .int t0] h (e_is (e_rn c_V q))) (hsN : ∀ a h q, sN a h = some q → wm w dr YX35_number [.ref a] h (e_is (e_rn c_I q))) : ∀ (n : Nat) l0 l2 l4 l6 h q, fX35_factor_b123 N sE sN n l0 l2 l4 l6 h = some q → wp w (d + 1) YX35_factor 123 [some (.ref l0), none, some (.long l2), none, some (.long l4), none, some (.int l6)] [] h (e_is (e_rn c_V q)) := by
  intro n
  induction n with
  | zero => intro l0 l2 l4 l6 h q hf; simp [fX35_factor_b123] at hf
  | succ n ih =>
    intro l0 l2 l4 l6 h q hf
    rw [fX35_factor_b123] at hf
    refine w_iload dX35_factor_123 rfl ?_
    refine x_cnI hf (e_stS (Yc := YX35_isDigit) (av := [.int l6]) (st := []) dX35_factor_125 q5232 mX35_isDigit) mX35_isDigit.2.2.1 mX35_isDigit.2.2.2.2.1 (Nat.le_of_ble_eq_true rfl) (Nat.le_of_ble_eq_true rfl) (fun q hq => pX35_isDigit (by omega) hq) (fun q1 hf => ?_)
    refine w_if_eq 188 dX35_factor_128 (by decide) (fun c2 => ?_) (fun c2 => ?_)
    · replace hf := (if_pos (show q1.1 = 0 from c2)).symm.trans hf
      exact (pX35_factor_b188 hd hdr hsE hsN hf).to ⟨rfl, rfl, rfl, rfl, trivial⟩
    · replace hf := (if_neg (show ¬ (q1.1 = 0) from c2)).symm.trans hf
      refine w_aload_n dX35_factor_131 rfl rfl ?_
      obtain ⟨x3, b4, hf⟩ := Option.bind_eq_some_iff.mp hf
      refine GX35_321 b4 dX35_factor_132 rfl ?_
      refine w_if_ne 188 dX35_factor_135 (by decide) (fun c5 => ?_) (fun c5 => ?_)
      · replace hf := (if_pos (show ¬ x3 = 0 from c5)).symm.trans hf
        exact (pX35_factor_b188 hd hdr hsE hsN hf).to ⟨rfl, rfl, rfl, rfl, trivial⟩
      · replace hf := (if_neg (show ¬ (¬ x3 = 0) from (fun z => z c5))).symm.trans hf
        refine w_lload dX35_factor_138 rfl ?_
        refine w_ldc2 dX35_factor_140 q5345 ?_
        refine w_lcmp dX35_factor_143 ?_
        refine w_if_ne 153 dX35_factor_144 (by decide) (fun c6 => ?_) (fun c6 => ?_)
        · replace hf := (if_pos (show ¬ (lg_cmp l4 (10000 : Int64)) = 0 from c6)).symm.trans hf
          exact (pX35_factor_b153 hd hdr hsE hsN ih hf).to ⟨rfl, rfl, rfl, rfl, trivial⟩
        · replace hf := (if_neg (show ¬ (¬ (lg_cmp l4 (10000 : Int64)) = 0) from (fun z => z c6))).symm.trans hf
          refine w_aload_n dX35_factor_147 rfl rfl ?_
          refine w_bipush dX35_factor_148 (v := 7) (by decide) ?_
          obtain ⟨_, b7, hf⟩ := Option.bind_eq_some_iff.mp hf
          refine x_cnV hf (e_stV (Yc := YX35_fail) (ci := 34) (av := [.int (7 : Int32)]) (st := []) dX35_factor_150 q5109 mX35_fail rfl (k_ok_some b7).1 (k_ok_some b7).2) mX35_fail.2.2.1 mX35_fail.2.2.2.2.1 (Nat.le_of_ble_eq_true rfl) (Nat.le_of_ble_eq_true rfl) (fun q hq => pX35_fail (by omega) hq) (fun q8 hf => ?_)
          exact (pX35_factor_b153 hd hdr hsE hsN ih hf).to ⟨rfl, rfl, rfl, rfl, trivial⟩
def fX35_factor_b117 (N : Nat) (sE : Nat → Int32 → eH → Option (Unit × eH)) (sN : Nat → eH → Option (Int32 × eH)) (l0 : Nat) (l2 : Int64) (l4 : Int64) (h : eH) : Option (Unit × eH) :=
  (k_ok 34 h l0).bind fun _ =>
  (fX35_getExpanded N sE l0 h).bind fun q2 =>
  fX35_factor_b123 N sE sN N l0 l2 l4 q2.1 q2.2
theorem pX35_factor_b117 {w : eW} {d : Nat} {dr : Nat} (hd : dr + 8 ≤ d + 1) (hdr : 12 ≤ dr) {N : Nat} {sE : Nat → Int32 → eH → Option (Unit × eH)} {sN : Nat → eH → Option (Int32 × eH)} (hsE : ∀ a t0 h q, sE a t0 h = some q → wm w dr YX35_expand [.ref a, .int t0] h (e_is (e_rn c_V q))) (hsN : ∀ a h q, sN a h = some q → wm w dr YX35_number [.ref a] h (e_is (e_rn c_I q))) {l0 : Nat} {l2 : Int64} {l4 : Int64} {h : eH} {q} (hf : fX35_factor_b117 N sE sN l0 l2 l4 h = some q) : wp w (d + 1) YX35_factor 117 [some (.ref l0), none, some (.long l2), none, some (.long l4), none, none] [] h (e_is (e_rn c_V q)) := by
  unfold fX35_factor_b117 at hf
  refine w_aload_n dX35_factor_117 rfl rfl ?_
  obtain ⟨_, b1, hf⟩ := Option.bind_eq_some_iff.mp hf
  refine x_cnI hf (e_stV (Yc := YX35_getExpanded) (ci := 34) (av := []) (st := []) dX35_factor_118 q5077 mX35_getExpanded rfl (k_ok_some b1).1 (k_ok_some b1).2) mX35_getExpanded.2.2.1 mX35_getExpanded.2.2.2.2.1 (Nat.le_of_ble_eq_true rfl) (Nat.le_of_ble_eq_true rfl) (fun q hq => pX35_getExpanded (by omega) hdr hsE hq) (fun q2 hf => ?_)
  refine w_istore dX35_factor_121 (by decide) (ls' := [some (.ref l0), none, some (.long l2), none, some (.long l4), none, some (.int q2.1)]) rfl ?_
  exact (pX35_factor_b123 hd hdr hsE hsN N _ _ _ _ _ _ hf).to ⟨rfl, rfl, rfl, rfl, trivial⟩
def fX35_factor_b93 (N : Nat) (sE : Nat → Int32 → eH → Option (Unit × eH)) (sN : Nat → eH → Option (Int32 × eH)) (l0 : Nat) (l2 : Int64) (l4 : Int64) (l6 : Int32) (h : eH) : Option (Unit × eH) :=
  (fX35_is l6 (12 : Int32) (46 : Int32) h).bind fun q1 =>
  if ¬ q1.1 = 0 then
    fX35_factor_b117 N sE sN l0 l2 l4 q1.2
  else
    (fX35_is l6 (12 : Int32) (44 : Int32) q1.2).bind fun q3 =>
    if q3.1 = 0 then
      fX35_factor_b188 N sE sN l0 l2 l4 l6 q3.2
    else
      fX35_factor_b117 N sE sN l0 l2 l4 q3.2
theorem pX35_factor_b93 {w : eW} {d : Nat} {dr : Nat} (hd : dr + 8 ≤ d + 1) (hdr : 12 ≤ dr) {N : Nat} {sE : Nat → Int32 → eH → Option (Unit × eH)} {sN : Nat → eH → Option (Int32 × eH)} (hsE : ∀ a t0 h q, sE a t0 h = some q → wm w dr YX35_expand [.ref a, .int t0] h (e_is (e_rn c_V q))) (hsN : ∀ a h q, sN a h = some q → wm w dr YX35_number [.ref a] h (e_is (e_rn c_I q))) {l0 : Nat} {l2 : Int64} {l4 : Int64} {l6 : Int32} {h : eH} {q} (hf : fX35_factor_b93 N sE sN l0 l2 l4 l6 h = some q) : wp w (d + 1) YX35_factor 93 [some (.ref l0), none, some (.long l2), none, some (.long l4), none, some (.int l6)] [] h (e_is (e_rn c_V q)) := by
  unfold fX35_factor_b93 at hf
  refine w_iload dX35_factor_93 rfl ?_
  refine w_bipush dX35_factor_95 (v := 12) (by decide) ?_
  refine w_bipush dX35_factor_97 (v := 46) (by decide) ?_
  refine x_cnI hf (e_stS (Yc := YX35_is) (av := [.int l6, .int (12 : Int32), .int (46 : Int32)]) (st := []) dX35_factor_99 q5229 mX35_is) mX35_is.2.2.1 mX35_is.2.2.2.2.1 (Nat.le_of_ble_eq_true rfl) (Nat.le_of_ble_eq_true rfl) (fun q hq => pX35_is (by omega) hq) (fun q1 hf => ?_)
  refine w_if_ne 117 dX35_factor_102 (by decide) (fun c2 => ?_) (fun c2 => ?_)
  · replace hf := (if_pos (show ¬ q1.1 = 0 from c2)).symm.trans hf
    exact (pX35_factor_b117 hd hdr hsE hsN hf).to ⟨rfl, rfl, rfl, trivial⟩
  · replace hf := (if_neg (show ¬ (¬ q1.1 = 0) from (fun z => z c2))).symm.trans hf
    refine w_iload dX35_factor_105 rfl ?_
    refine w_bipush dX35_factor_107 (v := 12) (by decide) ?_
    refine w_bipush dX35_factor_109 (v := 44) (by decide) ?_
    refine x_cnI hf (e_stS (Yc := YX35_is) (av := [.int l6, .int (12 : Int32), .int (44 : Int32)]) (st := []) dX35_factor_111 q5229 mX35_is) mX35_is.2.2.1 mX35_is.2.2.2.2.1 (Nat.le_of_ble_eq_true rfl) (Nat.le_of_ble_eq_true rfl) (fun q hq => pX35_is (by omega) hq) (fun q3 hf => ?_)
    refine w_if_eq 188 dX35_factor_114 (by decide) (fun c4 => ?_) (fun c4 => ?_)
    · replace hf := (if_pos (show q3.1 = 0 from c4)).symm.trans hf
      exact (pX35_factor_b188 hd hdr hsE hsN hf).to ⟨rfl, rfl, rfl, rfl, trivial⟩
    · replace hf := (if_neg (show ¬ (q3.1 = 0) from c4)).symm.trans hf
      exact (pX35_factor_b117 hd hdr hsE hsN hf).to ⟨rfl, rfl, rfl, trivial⟩
def fX35_factor_b37 (N : Nat) (sE : Nat → Int32 → eH → Option (Unit × eH)) (sN : Nat → eH → Option (Int32 × eH)) : Nat → Nat → Int64 → Int64 → Int32 → eH → Option (Unit × eH)
  | 0, _, _, _, _, _ => none
  | n + 1, l0, l2, l4, l6, h =>
    (fX35_isDigit l6 h).bind fun q1 =>
    if q1.1 = 0 then
      fX35_factor_b93 N sE sN l0 l2 l4 l6 q1.2
    else
      (g_I 34 q1.2 l0 46).bind fun x3 =>
      if ¬ x3 = 0 then
        fX35_factor_b93 N sE sN l0 l2 l4 l6 q1.2
      else
        if (lg_cmp ((((10 : Int64) * l2) + ((l6 - l6 / (256 : Int32) * (256 : Int32))).toInt64) - (48 : Int64)) (2147483647 : Int64)) ≤ 0 then
          fX35_factor_b84 N sE sN (fX35_factor_b37 N sE sN n) l0 ((((10 : Int64) * l2) + ((l6 - l6 / (256 : Int32) * (256 : Int32))).toInt64) - (48 : Int64)) l4 q1.2
        else
          (k_ok 34 q1.2 l0).bind fun _ =>
          (fX35_fail l0 (7 : Int32) q1.2).bind fun q8 =>
          fX35_factor_b84 N sE sN (fX35_factor_b37 N sE sN n) l0 ((((10 : Int64) * l2) + ((l6 - l6 / (256 : Int32) * (256 : Int32))).toInt64) - (48 : Int64)) l4 q8.2
theorem pX35_factor_b37 {w : eW} {d : Nat} {dr : Nat} (hd : dr + 8 ≤ d + 1) (hdr : 12 ≤ dr) {N : Nat} {sE : Nat → Int32 → eH → Option (Unit × eH)} {sN : Nat → eH → Option (Int32 × eH)} (hsE : ∀ a t0 h q, sE a t0 h = some q → wm w dr YX35_expand [.ref a, .int t0] h (e_is (e_rn c_V q))) (hsN : ∀ a h q, sN a h = some q → wm w dr YX35_number [.ref a] h (e_is (e_rn c_I q))) : ∀ (n : Nat) l0 l2 l4 l6 h q, fX35_factor_b37 N sE sN n l0 l2 l4 l6 h = some q → wp w (d + 1) YX35_factor 37 [some (.ref l0), none, some (.long l2), none, some (.long l4), none, some (.int l6)] [] h (e_is (e_rn c_V q)) := by
  intro n
  induction n with
  | zero => intro l0 l2 l4 l6 h q hf; simp [fX35_factor_b37] at hf
  | succ n ih =>
    intro l0 l2 l4 l6 h q hf
    rw [fX35_factor_b37] at hf
    refine w_iload dX35_factor_37 rfl ?_
    refine x_cnI hf (e_stS (Yc := YX35_isDigit) (av := [.int l6]) (st := []) dX35_factor_39 q5232 mX35_isDigit) mX35_isDigit.2.2.1 mX35_isDigit.2.2.2.2.1 (Nat.le_of_ble_eq_true rfl) (Nat.le_of_ble_eq_true rfl) (fun q hq => pX35_isDigit (by omega) hq) (fun q1 hf => ?_)
    refine w_if_eq 93 dX35_factor_42 (by decide) (fun c2 => ?_) (fun c2 => ?_)
    · replace hf := (if_pos (show q1.1 = 0 from c2)).symm.trans hf
      exact (pX35_factor_b93 hd hdr hsE hsN hf).to ⟨rfl, rfl, rfl, rfl, trivial⟩
    · replace hf := (if_neg (show ¬ (q1.1 = 0) from c2)).symm.trans hf
      refine w_aload_n dX35_factor_45 rfl rfl ?_
      obtain ⟨x3, b4, hf⟩ := Option.bind_eq_some_iff.mp hf
      refine GX35_321 b4 dX35_factor_46 rfl ?_
      refine w_if_ne 93 dX35_factor_49 (by decide) (fun c5 => ?_) (fun c5 => ?_)
      · replace hf := (if_pos (show ¬ x3 = 0 from c5)).symm.trans hf
        exact (pX35_factor_b93 hd hdr hsE hsN hf).to ⟨rfl, rfl, rfl, rfl, trivial⟩
      · replace hf := (if_neg (show ¬ (¬ x3 = 0) from (fun z => z c5))).symm.trans hf
        refine w_ldc2 dX35_factor_52 q5239 ?_
        refine w_lload_n dX35_factor_55 rfl rfl ?_
        refine w_lmul dX35_factor_56 ?_
        refine w_iload dX35_factor_57 rfl ?_
        refine w_sipush dX35_factor_59 (v := 256) (by decide) ?_
        refine w_irem dX35_factor_62 (by decide) ?_
        refine w_i2l dX35_factor_63 ?_
        refine w_ladd dX35_factor_64 ?_
        refine w_ldc2 dX35_factor_65 q5240 ?_
        refine w_lsub dX35_factor_68 ?_
        refine w_lstore_n dX35_factor_69 rfl (by decide) (ls' := [some (.ref l0), none, some (.long ((((10 : Int64) * l2) + ((l6 - l6 / (256 : Int32) * (256 : Int32))).toInt64) - (48 : Int64))), none, some (.long l4), none, some (.int l6)]) rfl ?_
        refine w_lload_n dX35_factor_70 rfl rfl ?_
        refine w_ldc2 dX35_factor_71 q5241 ?_
        refine w_lcmp dX35_factor_74 ?_
        refine w_if_le 84 dX35_factor_75 (by decide) (fun c6 => ?_) (fun c6 => ?_)
        · replace hf := (if_pos (show (lg_cmp ((((10 : Int64) * l2) + ((l6 - l6 / (256 : Int32) * (256 : Int32))).toInt64) - (48 : Int64)) (2147483647 : Int64)) ≤ 0 from c6)).symm.trans hf
          exact (pX35_factor_b84 hd hdr hsE hsN ih hf).to ⟨rfl, rfl, rfl, trivial⟩
        · replace hf := (if_neg (show ¬ ((lg_cmp ((((10 : Int64) * l2) + ((l6 - l6 / (256 : Int32) * (256 : Int32))).toInt64) - (48 : Int64)) (2147483647 : Int64)) ≤ 0) from c6)).symm.trans hf
          refine w_aload_n dX35_factor_78 rfl rfl ?_
          refine w_bipush dX35_factor_79 (v := 7) (by decide) ?_
          obtain ⟨_, b7, hf⟩ := Option.bind_eq_some_iff.mp hf
          refine x_cnV hf (e_stV (Yc := YX35_fail) (ci := 34) (av := [.int (7 : Int32)]) (st := []) dX35_factor_81 q5109 mX35_fail rfl (k_ok_some b7).1 (k_ok_some b7).2) mX35_fail.2.2.1 mX35_fail.2.2.2.2.1 (Nat.le_of_ble_eq_true rfl) (Nat.le_of_ble_eq_true rfl) (fun q hq => pX35_fail (by omega) hq) (fun q8 hf => ?_)
          exact (pX35_factor_b84 hd hdr hsE hsN ih hf).to ⟨rfl, rfl, rfl, trivial⟩
def fX35_factor_b34 (N : Nat) (sE : Nat → Int32 → eH → Option (Unit × eH)) (sN : Nat → eH → Option (Int32 × eH)) (l0 : Nat) (l1 : Int32) (l2 : Int64) (l4 : Int64) (h : eH) : Option (Unit × eH) :=
  fX35_factor_b37 N sE sN N l0 l2 l4 l1 h
theorem pX35_factor_b34 {w : eW} {d : Nat} {dr : Nat} (hd : dr + 8 ≤ d + 1) (hdr : 12 ≤ dr) {N : Nat} {sE : Nat → Int32 → eH → Option (Unit × eH)} {sN : Nat → eH → Option (Int32 × eH)} (hsE : ∀ a t0 h q, sE a t0 h = some q → wm w dr YX35_expand [.ref a, .int t0] h (e_is (e_rn c_V q))) (hsN : ∀ a h q, sN a h = some q → wm w dr YX35_number [.ref a] h (e_is (e_rn c_I q))) {l0 : Nat} {l1 : Int32} {l2 : Int64} {l4 : Int64} {h : eH} {q} (hf : fX35_factor_b34 N sE sN l0 l1 l2 l4 h = some q) : wp w (d + 1) YX35_factor 34 [some (.ref l0), some (.int l1), some (.long l2), none, some (.long l4), none, none] [] h (e_is (e_rn c_V q)) := by
  unfold fX35_factor_b34 at hf
  refine w_iload_n dX35_factor_34 rfl rfl ?_
  refine w_istore dX35_factor_35 (by decide) (ls' := [some (.ref l0), some (.int l1), some (.long l2), none, some (.long l4), none, some (.int l1)]) rfl ?_
  exact (pX35_factor_b37 hd hdr hsE hsN N _ _ _ _ _ _ hf).to ⟨rfl, rfl, rfl, rfl, trivial⟩
def fX35_factor (N : Nat) (sE : Nat → Int32 → eH → Option (Unit × eH)) (sN : Nat → eH → Option (Int32 × eH)) (this : Nat) (p0 : Int32) (h : eH) : Option (Unit × eH) :=
  (fX35_isDigit p0 h).bind fun q1 =>
  if ¬ q1.1 = 0 then
    fX35_factor_b34 N sE sN this p0 (0 : Int64) (1 : Int64) q1.2
  else
    (fX35_is p0 (12 : Int32) (46 : Int32) q1.2).bind fun q3 =>
    if ¬ q3.1 = 0 then
      fX35_factor_b34 N sE sN this p0 (0 : Int64) (1 : Int64) q3.2
    else
      (fX35_is p0 (12 : Int32) (44 : Int32) q3.2).bind fun q5 =>
      if q5.1 = 0 then
        (fX35_is p0 (12 : Int32) (96 : Int32) q5.2).bind fun q7 =>
        if q7.1 = 0 then
          (k_ok 34 q7.2 this).bind fun _ =>
          (fX35_hasValue this p0 q7.2).bind fun q10 =>
          if q10.1 = 0 then
            (k_ok 34 q10.2 this).bind fun _ =>
            (fX35_fail this (6 : Int32) q10.2).bind fun q13 =>
            fX35_factor_b241 N sE sN this (0 : Int64) (1 : Int64) q13.2
          else
            (k_ok 34 q10.2 this).bind fun _ =>
            (fX35_value sN this p0 q10.2).bind fun q15 =>
            fX35_factor_b241 N sE sN this (q15.1).toInt64 (1 : Int64) q15.2
        else
          (k_ok 34 q7.2 this).bind fun _ =>
          (fX35_quoted N sE this q7.2).bind fun q17 =>
          fX35_factor_b241 N sE sN this (q17.1).toInt64 (1 : Int64) q17.2
      else
        fX35_factor_b34 N sE sN this p0 (0 : Int64) (1 : Int64) q5.2
theorem pX35_factor {w : eW} {d : Nat} {dr : Nat} (hd : dr + 8 ≤ d) (hdr : 12 ≤ dr) {N : Nat} {sE : Nat → Int32 → eH → Option (Unit × eH)} {sN : Nat → eH → Option (Int32 × eH)} (hsE : ∀ a t0 h q, sE a t0 h = some q → wm w dr YX35_expand [.ref a, .int t0] h (e_is (e_rn c_V q))) (hsN : ∀ a h q, sN a h = some q → wm w dr YX35_number [.ref a] h (e_is (e_rn c_I q))) {this : Nat} {p0 : Int32} {h : eH} {q} (hf : fX35_factor N sE sN this p0 h = some q) : wm w d YX35_factor [.ref this, .int p0] h (e_is (e_rn c_V q)) := by
  obtain ⟨d, rfl⟩ : ∃ e, d = e + 1 := ⟨d - 1, by omega⟩
  show wp w (d + 1) YX35_factor 0 [some (.ref this), some (.int p0), none, none, none, none, none] [] h _
  unfold fX35_factor at hf
  refine w_lconst dX35_factor_0 (v := 0) (by decide) ?_
  refine w_lstore_n dX35_factor_1 rfl (by decide) (ls' := [some (.ref this), some (.int p0), some (.long (0 : Int64)), none, none, none, none]) rfl ?_
  refine w_lconst dX35_factor_2 (v := 1) (by decide) ?_
  refine w_lstore dX35_factor_3 (by decide) (ls' := [some (.ref this), some (.int p0), some (.long (0 : Int64)), none, some (.long (1 : Int64)), none, none]) rfl ?_
  refine w_iload_n dX35_factor_5 rfl rfl ?_
  refine x_cnI hf (e_stS (Yc := YX35_isDigit) (av := [.int p0]) (st := []) dX35_factor_6 q5232 mX35_isDigit) mX35_isDigit.2.2.1 mX35_isDigit.2.2.2.2.1 (Nat.le_of_ble_eq_true rfl) (Nat.le_of_ble_eq_true rfl) (fun q hq => pX35_isDigit (by omega) hq) (fun q1 hf => ?_)
  refine w_if_ne 34 dX35_factor_9 (by decide) (fun c2 => ?_) (fun c2 => ?_)
  · replace hf := (if_pos (show ¬ q1.1 = 0 from c2)).symm.trans hf
    exact (pX35_factor_b34 hd hdr hsE hsN hf).to ⟨rfl, rfl, rfl, rfl, trivial⟩
  · replace hf := (if_neg (show ¬ (¬ q1.1 = 0) from (fun z => z c2))).symm.trans hf
    refine w_iload_n dX35_factor_12 rfl rfl ?_
    refine w_bipush dX35_factor_13 (v := 12) (by decide) ?_
    refine w_bipush dX35_factor_15 (v := 46) (by decide) ?_
    refine x_cnI hf (e_stS (Yc := YX35_is) (av := [.int p0, .int (12 : Int32), .int (46 : Int32)]) (st := []) dX35_factor_17 q5229 mX35_is) mX35_is.2.2.1 mX35_is.2.2.2.2.1 (Nat.le_of_ble_eq_true rfl) (Nat.le_of_ble_eq_true rfl) (fun q hq => pX35_is (by omega) hq) (fun q3 hf => ?_)
    refine w_if_ne 34 dX35_factor_20 (by decide) (fun c4 => ?_) (fun c4 => ?_)
    · replace hf := (if_pos (show ¬ q3.1 = 0 from c4)).symm.trans hf
      exact (pX35_factor_b34 hd hdr hsE hsN hf).to ⟨rfl, rfl, rfl, rfl, trivial⟩
    · replace hf := (if_neg (show ¬ (¬ q3.1 = 0) from (fun z => z c4))).symm.trans hf
      refine w_iload_n dX35_factor_23 rfl rfl ?_
      refine w_bipush dX35_factor_24 (v := 12) (by decide) ?_
      refine w_bipush dX35_factor_26 (v := 44) (by decide) ?_
      refine x_cnI hf (e_stS (Yc := YX35_is) (av := [.int p0, .int (12 : Int32), .int (44 : Int32)]) (st := []) dX35_factor_28 q5229 mX35_is) mX35_is.2.2.1 mX35_is.2.2.2.2.1 (Nat.le_of_ble_eq_true rfl) (Nat.le_of_ble_eq_true rfl) (fun q hq => pX35_is (by omega) hq) (fun q5 hf => ?_)
      refine w_if_eq 197 dX35_factor_31 (by decide) (fun c6 => ?_) (fun c6 => ?_)
      · replace hf := (if_pos (show q5.1 = 0 from c6)).symm.trans hf
        refine w_iload_n dX35_factor_197 rfl rfl ?_
        refine w_bipush dX35_factor_198 (v := 12) (by decide) ?_
        refine w_bipush dX35_factor_200 (v := 96) (by decide) ?_
        refine x_cnI hf (e_stS (Yc := YX35_is) (av := [.int p0, .int (12 : Int32), .int (96 : Int32)]) (st := []) dX35_factor_202 q5229 mX35_is) mX35_is.2.2.1 mX35_is.2.2.2.2.1 (Nat.le_of_ble_eq_true rfl) (Nat.le_of_ble_eq_true rfl) (fun q hq => pX35_is (by omega) hq) (fun q7 hf => ?_)
        refine w_if_eq 217 dX35_factor_205 (by decide) (fun c8 => ?_) (fun c8 => ?_)
        · replace hf := (if_pos (show q7.1 = 0 from c8)).symm.trans hf
          refine w_aload_n dX35_factor_217 rfl rfl ?_
          refine w_iload_n dX35_factor_218 rfl rfl ?_
          obtain ⟨_, b9, hf⟩ := Option.bind_eq_some_iff.mp hf
          refine x_cnI hf (e_stV (Yc := YX35_hasValue) (ci := 34) (av := [.int p0]) (st := []) dX35_factor_219 q5250 mX35_hasValue rfl (k_ok_some b9).1 (k_ok_some b9).2) mX35_hasValue.2.2.1 mX35_hasValue.2.2.2.2.1 (Nat.le_of_ble_eq_true rfl) (Nat.le_of_ble_eq_true rfl) (fun q hq => pX35_hasValue (by omega) hq) (fun q10 hf => ?_)
          refine w_if_eq 235 dX35_factor_222 (by decide) (fun c11 => ?_) (fun c11 => ?_)
          · replace hf := (if_pos (show q10.1 = 0 from c11)).symm.trans hf
            refine w_aload_n dX35_factor_235 rfl rfl ?_
            refine w_bipush dX35_factor_236 (v := 6) (by decide) ?_
            obtain ⟨_, b12, hf⟩ := Option.bind_eq_some_iff.mp hf
            refine x_cnV hf (e_stV (Yc := YX35_fail) (ci := 34) (av := [.int (6 : Int32)]) (st := []) dX35_factor_238 q5109 mX35_fail rfl (k_ok_some b12).1 (k_ok_some b12).2) mX35_fail.2.2.1 mX35_fail.2.2.2.2.1 (Nat.le_of_ble_eq_true rfl) (Nat.le_of_ble_eq_true rfl) (fun q hq => pX35_fail (by omega) hq) (fun q13 hf => ?_)
            exact (pX35_factor_b241 hd hdr hsE hsN hf).to ⟨rfl, rfl, rfl, trivial⟩
          · replace hf := (if_neg (show ¬ (q10.1 = 0) from c11)).symm.trans hf
            refine w_aload_n dX35_factor_225 rfl rfl ?_
            refine w_iload_n dX35_factor_226 rfl rfl ?_
            obtain ⟨_, b14, hf⟩ := Option.bind_eq_some_iff.mp hf
            refine x_cnI hf (e_stV (Yc := YX35_value) (ci := 34) (av := [.int p0]) (st := []) dX35_factor_227 q5267 mX35_value rfl (k_ok_some b14).1 (k_ok_some b14).2) mX35_value.2.2.1 mX35_value.2.2.2.2.1 (Nat.le_of_ble_eq_true rfl) (Nat.le_of_ble_eq_true rfl) (fun q hq => pX35_value (by omega) hdr hsN hq) (fun q15 hf => ?_)
            refine w_i2l dX35_factor_230 ?_
            refine w_lstore_n dX35_factor_231 rfl (by decide) (ls' := [some (.ref this), some (.int p0), some (.long (q15.1).toInt64), none, some (.long (1 : Int64)), none, none]) rfl ?_
            refine w_goto 241 dX35_factor_232 (by decide) ?_
            exact (pX35_factor_b241 hd hdr hsE hsN hf).to ⟨rfl, rfl, rfl, trivial⟩
        · replace hf := (if_neg (show ¬ (q7.1 = 0) from c8)).symm.trans hf
          refine w_aload_n dX35_factor_208 rfl rfl ?_
          obtain ⟨_, b16, hf⟩ := Option.bind_eq_some_iff.mp hf
          refine x_cnI hf (e_stV (Yc := YX35_quoted) (ci := 34) (av := []) (st := []) dX35_factor_209 q5242 mX35_quoted rfl (k_ok_some b16).1 (k_ok_some b16).2) mX35_quoted.2.2.1 mX35_quoted.2.2.2.2.1 (Nat.le_of_ble_eq_true rfl) (Nat.le_of_ble_eq_true rfl) (fun q hq => pX35_quoted (by omega) hdr hsE hq) (fun q17 hf => ?_)
          refine w_i2l dX35_factor_212 ?_
          refine w_lstore_n dX35_factor_213 rfl (by decide) (ls' := [some (.ref this), some (.int p0), some (.long (q17.1).toInt64), none, some (.long (1 : Int64)), none, none]) rfl ?_
          refine w_goto 241 dX35_factor_214 (by decide) ?_
          exact (pX35_factor_b241 hd hdr hsE hsN hf).to ⟨rfl, rfl, rfl, trivial⟩
      · replace hf := (if_neg (show ¬ (q5.1 = 0) from c6)).symm.trans hf
        exact (pX35_factor_b34 hd hdr hsE hsN hf).to ⟨rfl, rfl, rfl, rfl, trivial⟩
abbrev cX35_isLetter : ByteArray := prog_37_method_86_code
def yX35_isLetter : MethodName := ⟨RX35, "isLetter", "(II)Z"⟩
def YX35_isLetter : eY := (yX35_isLetter, cX35_isLetter, 3, (Option.some FieldType.boolean), [])
theorem mX35_isLetter : e_mv YX35_isLetter RX35 2 := ⟨q5353, qs294, q5354, by decide, by decide +kernel, (e_sig (by decide +kernel))⟩
theorem dX35_isLetter_0 : decode cX35_isLetter 0 = .ok (.iload_n 1, 1) := dc_27 (by decide +kernel)
theorem dX35_isLetter_1 : decode cX35_isLetter 1 = .ok (.invokestatic 459, 3) := dc_184 (a := 1) (b := 203) (n := 459) (by decide +kernel)
theorem dX35_isLetter_4 : decode cX35_isLetter 4 = .ok (.ifCond .eq 28, 3) := dc_153 (a := 0) (b := 28) (v := 28) (by decide +kernel)
theorem dX35_isLetter_7 : decode cX35_isLetter 7 = .ok (.iload_n 1, 1) := dc_27 (by decide +kernel)
theorem dX35_isLetter_8 : decode cX35_isLetter 8 = .ok (.sipush 256, 3) := dc_17 (a := 1) (b := 0) (v := 256) (by decide +kernel)
theorem dX35_isLetter_11 : decode cX35_isLetter 11 = .ok (.irem, 1) := dc_112 (by decide +kernel)
theorem dX35_isLetter_12 : decode cX35_isLetter 12 = .ok (.iload_n 2, 1) := dc_28 (by decide +kernel)
theorem dX35_isLetter_13 : decode cX35_isLetter 13 = .ok (.if_icmp .eq 15, 3) := dc_159 (a := 0) (b := 15) (v := 15) (by decide +kernel)
theorem dX35_isLetter_16 : decode cX35_isLetter 16 = .ok (.iload_n 1, 1) := dc_27 (by decide +kernel)
theorem dX35_isLetter_17 : decode cX35_isLetter 17 = .ok (.sipush 256, 3) := dc_17 (a := 1) (b := 0) (v := 256) (by decide +kernel)
theorem dX35_isLetter_20 : decode cX35_isLetter 20 = .ok (.irem, 1) := dc_112 (by decide +kernel)
theorem dX35_isLetter_21 : decode cX35_isLetter 21 = .ok (.iload_n 2, 1) := dc_28 (by decide +kernel)
theorem dX35_isLetter_22 : decode cX35_isLetter 22 = .ok (.bipush 32, 2) := dc_16 (a := 32) (v := 32) (by decide +kernel)
theorem dX35_isLetter_24 : decode cX35_isLetter 24 = .ok (.isub, 1) := dc_100 (by decide +kernel)
theorem dX35_isLetter_25 : decode cX35_isLetter 25 = .ok (.if_icmp .ne 7, 3) := dc_160 (a := 0) (b := 7) (v := 7) (by decide +kernel)
theorem dX35_isLetter_28 : decode cX35_isLetter 28 = .ok (.iconst 1, 1) := dc_4 (by decide +kernel)
theorem dX35_isLetter_29 : decode cX35_isLetter 29 = .ok (.goto 4, 3) := dc_167 (a := 0) (b := 4) (v := 4) (by decide +kernel)
theorem dX35_isLetter_32 : decode cX35_isLetter 32 = .ok (.iconst 0, 1) := dc_3 (by decide +kernel)
theorem dX35_isLetter_33 : decode cX35_isLetter 33 = .ok (.ireturn, 1) := dc_172 (by decide +kernel)
def fX35_isLetter_b33 (s0 : Int32) (h : eH) : Option (Int32 × eH) :=
  z_r s0 (s0, h)
theorem pX35_isLetter_b33 {w : eW} {d : Nat} (hd : 1 ≤ d + 1) {s0 : Int32} {h : eH} {q} (hf : fX35_isLetter_b33 s0 h = some q) : wp w (d + 1) YX35_isLetter 33 [none, none, none] [.int s0] h (e_is (e_rn c_I q)) := by
  unfold fX35_isLetter_b33 at hf
  obtain ⟨b1, rfl⟩ := z_r_some hf
  exact w_iret dX35_isLetter_33 rfl b1 rfl
def fX35_isLetter_b28  (h : eH) : Option (Int32 × eH) :=
  fX35_isLetter_b33 (1 : Int32) h
theorem pX35_isLetter_b28 {w : eW} {d : Nat} (hd : 1 ≤ d + 1)  {h : eH} {q} (hf : fX35_isLetter_b28  h = some q) : wp w (d + 1) YX35_isLetter 28 [none, none, none] [] h (e_is (e_rn c_I q)) := by
  unfold fX35_isLetter_b28 at hf
  refine w_iconst dX35_isLetter_28 (v := 1) (by decide) ?_
  refine w_goto 33 dX35_isLetter_29 (by decide) ?_
  exact (pX35_isLetter_b33 hd hf).to trivial
def fX35_isLetter_b32  (h : eH) : Option (Int32 × eH) :=
  fX35_isLetter_b33 (0 : Int32) h
theorem pX35_isLetter_b32 {w : eW} {d : Nat} (hd : 1 ≤ d + 1)  {h : eH} {q} (hf : fX35_isLetter_b32  h = some q) : wp w (d + 1) YX35_isLetter 32 [none, none, none] [] h (e_is (e_rn c_I q)) := by
  unfold fX35_isLetter_b32 at hf
  refine w_iconst dX35_isLetter_32 (v := 0) (by decide) ?_
  exact (pX35_isLetter_b33 hd hf).to trivial
def fX35_isLetter (this : Nat) (p0 : Int32) (p1 : Int32) (h : eH) : Option (Int32 × eH) :=
  (fX35_isCharacter p0 h).bind fun q1 =>
  if q1.1 = 0 then
    fX35_isLetter_b32 q1.2
  else
    if (p0 - p0 / (256 : Int32) * (256 : Int32)) = p1 then
      fX35_isLetter_b28 q1.2
    else
      if ¬ (p0 - p0 / (256 : Int32) * (256 : Int32)) = (p1 - (32 : Int32)) then
        fX35_isLetter_b32 q1.2
      else
        fX35_isLetter_b28 q1.2
theorem pX35_isLetter {w : eW} {d : Nat} (hd : 1 ≤ d) {this : Nat} {p0 : Int32} {p1 : Int32} {h : eH} {q} (hf : fX35_isLetter this p0 p1 h = some q) : wm w d YX35_isLetter [.ref this, .int p0, .int p1] h (e_is (e_rn c_I q)) := by
  obtain ⟨d, rfl⟩ : ∃ e, d = e + 1 := ⟨d - 1, by omega⟩
  show wp w (d + 1) YX35_isLetter 0 [some (.ref this), some (.int p0), some (.int p1)] [] h _
  unfold fX35_isLetter at hf
  refine w_iload_n dX35_isLetter_0 rfl rfl ?_
  refine x_cnI hf (e_stS (Yc := YX35_isCharacter) (av := [.int p0]) (st := []) dX35_isLetter_1 q5127 mX35_isCharacter) mX35_isCharacter.2.2.1 mX35_isCharacter.2.2.2.2.1 (Nat.le_of_ble_eq_true rfl) (Nat.le_of_ble_eq_true rfl) (fun q hq => pX35_isCharacter (by omega) hq) (fun q1 hf => ?_)
  refine w_if_eq 32 dX35_isLetter_4 (by decide) (fun c2 => ?_) (fun c2 => ?_)
  · replace hf := (if_pos (show q1.1 = 0 from c2)).symm.trans hf
    exact (pX35_isLetter_b32 hd hf).to trivial
  · replace hf := (if_neg (show ¬ (q1.1 = 0) from c2)).symm.trans hf
    refine w_iload_n dX35_isLetter_7 rfl rfl ?_
    refine w_sipush dX35_isLetter_8 (v := 256) (by decide) ?_
    refine w_irem dX35_isLetter_11 (by decide) ?_
    refine w_iload_n dX35_isLetter_12 rfl rfl ?_
    refine w_icmp_eq 28 dX35_isLetter_13 (by decide) (fun c3 => ?_) (fun c3 => ?_)
    · replace hf := (if_pos (show (p0 - p0 / (256 : Int32) * (256 : Int32)) = p1 from c3)).symm.trans hf
      exact (pX35_isLetter_b28 hd hf).to trivial
    · replace hf := (if_neg (show ¬ ((p0 - p0 / (256 : Int32) * (256 : Int32)) = p1) from c3)).symm.trans hf
      refine w_iload_n dX35_isLetter_16 rfl rfl ?_
      refine w_sipush dX35_isLetter_17 (v := 256) (by decide) ?_
      refine w_irem dX35_isLetter_20 (by decide) ?_
      refine w_iload_n dX35_isLetter_21 rfl rfl ?_
      refine w_bipush dX35_isLetter_22 (v := 32) (by decide) ?_
      refine w_isub dX35_isLetter_24 ?_
      refine w_icmp_ne 32 dX35_isLetter_25 (by decide) (fun c4 => ?_) (fun c4 => ?_)
      · replace hf := (if_pos (show ¬ (p0 - p0 / (256 : Int32) * (256 : Int32)) = (p1 - (32 : Int32)) from c4)).symm.trans hf
        exact (pX35_isLetter_b32 hd hf).to trivial
      · replace hf := (if_neg (show ¬ (¬ (p0 - p0 / (256 : Int32) * (256 : Int32)) = (p1 - (32 : Int32))) from (fun z => z c4))).symm.trans hf
        exact (pX35_isLetter_b28 hd hf).to trivial
abbrev cX35_keyword : ByteArray := prog_37_method_85_code
def yX35_keyword : MethodName := ⟨RX35, "keyword", "(Ljava/lang/String;)Z"⟩
def YX35_keyword : eY := (yX35_keyword, cX35_keyword, 6, (Option.some FieldType.boolean), [])
theorem mX35_keyword : e_mv YX35_keyword RX35 1 := ⟨q5349, qs293, q5350, by decide, by decide +kernel, (e_sig (by decide +kernel))⟩
theorem dX35_keyword_0 : decode cX35_keyword 0 = .ok (.bipush 17, 2) := dc_16 (a := 17) (v := 17) (by decide +kernel)
theorem dX35_keyword_2 : decode cX35_keyword 2 = .ok (.aload_n 0, 1) := dc_42 (by decide +kernel)
theorem dX35_keyword_3 : decode cX35_keyword 3 = .ok (.getfield 353, 3) := dc_180 (a := 1) (b := 97) (n := 353) (by decide +kernel)
theorem dX35_keyword_6 : decode cX35_keyword 6 = .ok (.imul, 1) := dc_104 (by decide +kernel)
theorem dX35_keyword_7 : decode cX35_keyword 7 = .ok (.istore_n 2, 1) := dc_61 (by decide +kernel)
theorem dX35_keyword_8 : decode cX35_keyword 8 = .ok (.iconst 0, 1) := dc_3 (by decide +kernel)
theorem dX35_keyword_9 : decode cX35_keyword 9 = .ok (.istore_n 3, 1) := dc_62 (by decide +kernel)
theorem dX35_keyword_10 : decode cX35_keyword 10 = .ok (.aload_n 0, 1) := dc_42 (by decide +kernel)
theorem dX35_keyword_11 : decode cX35_keyword 11 = .ok (.invokevirtual 487, 3) := dc_182 (a := 1) (b := 231) (n := 487) (by decide +kernel)
theorem dX35_keyword_14 : decode cX35_keyword 14 = .ok (.istore 4, 2) := dc_54 (a := 4) (by decide +kernel)
theorem dX35_keyword_16 : decode cX35_keyword 16 = .ok (.iload 4, 2) := dc_21 (a := 4) (by decide +kernel)
theorem dX35_keyword_18 : decode cX35_keyword 18 = .ok (.bipush 10, 2) := dc_16 (a := 10) (v := 10) (by decide +kernel)
theorem dX35_keyword_20 : decode cX35_keyword 20 = .ok (.invokestatic 493, 3) := dc_184 (a := 1) (b := 237) (n := 493) (by decide +kernel)
theorem dX35_keyword_23 : decode cX35_keyword 23 = .ok (.ifCond .eq 12, 3) := dc_153 (a := 0) (b := 12) (v := 12) (by decide +kernel)
theorem dX35_keyword_26 : decode cX35_keyword 26 = .ok (.aload_n 0, 1) := dc_42 (by decide +kernel)
theorem dX35_keyword_27 : decode cX35_keyword 27 = .ok (.invokevirtual 487, 3) := dc_182 (a := 1) (b := 231) (n := 487) (by decide +kernel)
theorem dX35_keyword_30 : decode cX35_keyword 30 = .ok (.istore 4, 2) := dc_54 (a := 4) (by decide +kernel)
theorem dX35_keyword_32 : decode cX35_keyword 32 = .ok (.goto (-16), 3) := dc_167 (a := 255) (b := 240) (v := -16) (by decide +kernel)
theorem dX35_keyword_35 : decode cX35_keyword 35 = .ok (.aload_n 0, 1) := dc_42 (by decide +kernel)
theorem dX35_keyword_36 : decode cX35_keyword 36 = .ok (.iload 4, 2) := dc_21 (a := 4) (by decide +kernel)
theorem dX35_keyword_38 : decode cX35_keyword 38 = .ok (.aload_n 1, 1) := dc_43 (by decide +kernel)
theorem dX35_keyword_39 : decode cX35_keyword 39 = .ok (.iload_n 3, 1) := dc_29 (by decide +kernel)
theorem dX35_keyword_40 : decode cX35_keyword 40 = .ok (.invokevirtual 421, 3) := dc_182 (a := 1) (b := 165) (n := 421) (by decide +kernel)
theorem dX35_keyword_43 : decode cX35_keyword 43 = .ok (.invokevirtual 669, 3) := dc_182 (a := 2) (b := 157) (n := 669) (by decide +kernel)
theorem dX35_keyword_46 : decode cX35_keyword 46 = .ok (.ifCond .eq 35, 3) := dc_153 (a := 0) (b := 35) (v := 35) (by decide +kernel)
theorem dX35_keyword_49 : decode cX35_keyword 49 = .ok (.aload_n 0, 1) := dc_42 (by decide +kernel)
theorem dX35_keyword_50 : decode cX35_keyword 50 = .ok (.getfield 237, 3) := dc_180 (a := 0) (b := 237) (n := 237) (by decide +kernel)
theorem dX35_keyword_53 : decode cX35_keyword 53 = .ok (.iload_n 2, 1) := dc_28 (by decide +kernel)
theorem dX35_keyword_54 : decode cX35_keyword 54 = .ok (.iload_n 3, 1) := dc_29 (by decide +kernel)
theorem dX35_keyword_55 : decode cX35_keyword 55 = .ok (.iadd, 1) := dc_96 (by decide +kernel)
theorem dX35_keyword_56 : decode cX35_keyword 56 = .ok (.iload 4, 2) := dc_21 (a := 4) (by decide +kernel)
theorem dX35_keyword_58 : decode cX35_keyword 58 = .ok (.iastore, 1) := dc_79 (by decide +kernel)
theorem dX35_keyword_59 : decode cX35_keyword 59 = .ok (.iinc 3 1, 3) := dc_132 (a := 3) (b := 1) (v := 1) (by decide +kernel)
theorem dX35_keyword_62 : decode cX35_keyword 62 = .ok (.iload_n 3, 1) := dc_29 (by decide +kernel)
theorem dX35_keyword_63 : decode cX35_keyword 63 = .ok (.aload_n 1, 1) := dc_43 (by decide +kernel)
theorem dX35_keyword_64 : decode cX35_keyword 64 = .ok (.invokevirtual 416, 3) := dc_182 (a := 1) (b := 160) (n := 416) (by decide +kernel)
theorem dX35_keyword_67 : decode cX35_keyword 67 = .ok (.if_icmp .ne 5, 3) := dc_160 (a := 0) (b := 5) (v := 5) (by decide +kernel)
theorem dX35_keyword_70 : decode cX35_keyword 70 = .ok (.iconst 1, 1) := dc_4 (by decide +kernel)
theorem dX35_keyword_71 : decode cX35_keyword 71 = .ok (.ireturn, 1) := dc_172 (by decide +kernel)
theorem dX35_keyword_72 : decode cX35_keyword 72 = .ok (.aload_n 0, 1) := dc_42 (by decide +kernel)
theorem dX35_keyword_73 : decode cX35_keyword 73 = .ok (.invokevirtual 487, 3) := dc_182 (a := 1) (b := 231) (n := 487) (by decide +kernel)
theorem dX35_keyword_76 : decode cX35_keyword 76 = .ok (.istore 4, 2) := dc_54 (a := 4) (by decide +kernel)
theorem dX35_keyword_78 : decode cX35_keyword 78 = .ok (.goto (-43), 3) := dc_167 (a := 255) (b := 213) (v := -43) (by decide +kernel)
theorem dX35_keyword_81 : decode cX35_keyword 81 = .ok (.aload_n 0, 1) := dc_42 (by decide +kernel)
theorem dX35_keyword_82 : decode cX35_keyword 82 = .ok (.iload 4, 2) := dc_21 (a := 4) (by decide +kernel)
theorem dX35_keyword_84 : decode cX35_keyword 84 = .ok (.invokevirtual 509, 3) := dc_182 (a := 1) (b := 253) (n := 509) (by decide +kernel)
theorem dX35_keyword_87 : decode cX35_keyword 87 = .ok (.iload_n 3, 1) := dc_29 (by decide +kernel)
theorem dX35_keyword_88 : decode cX35_keyword 88 = .ok (.iconst 1, 1) := dc_4 (by decide +kernel)
theorem dX35_keyword_89 : decode cX35_keyword 89 = .ok (.isub, 1) := dc_100 (by decide +kernel)
theorem dX35_keyword_90 : decode cX35_keyword 90 = .ok (.istore 5, 2) := dc_54 (a := 5) (by decide +kernel)
theorem dX35_keyword_92 : decode cX35_keyword 92 = .ok (.iload 5, 2) := dc_21 (a := 5) (by decide +kernel)
theorem dX35_keyword_94 : decode cX35_keyword 94 = .ok (.ifCond .lt 22, 3) := dc_155 (a := 0) (b := 22) (v := 22) (by decide +kernel)
theorem dX35_keyword_97 : decode cX35_keyword 97 = .ok (.aload_n 0, 1) := dc_42 (by decide +kernel)
theorem dX35_keyword_98 : decode cX35_keyword 98 = .ok (.aload_n 0, 1) := dc_42 (by decide +kernel)
theorem dX35_keyword_99 : decode cX35_keyword 99 = .ok (.getfield 237, 3) := dc_180 (a := 0) (b := 237) (n := 237) (by decide +kernel)
theorem dX35_keyword_102 : decode cX35_keyword 102 = .ok (.iload_n 2, 1) := dc_28 (by decide +kernel)
theorem dX35_keyword_103 : decode cX35_keyword 103 = .ok (.iload 5, 2) := dc_21 (a := 5) (by decide +kernel)
theorem dX35_keyword_105 : decode cX35_keyword 105 = .ok (.iadd, 1) := dc_96 (by decide +kernel)
theorem dX35_keyword_106 : decode cX35_keyword 106 = .ok (.iaload, 1) := dc_46 (by decide +kernel)
theorem dX35_keyword_107 : decode cX35_keyword 107 = .ok (.invokevirtual 509, 3) := dc_182 (a := 1) (b := 253) (n := 509) (by decide +kernel)
theorem dX35_keyword_110 : decode cX35_keyword 110 = .ok (.iinc 5 (-1), 3) := dc_132 (a := 5) (b := 255) (v := -1) (by decide +kernel)
theorem dX35_keyword_113 : decode cX35_keyword 113 = .ok (.goto (-21), 3) := dc_167 (a := 255) (b := 235) (v := -21) (by decide +kernel)
theorem dX35_keyword_116 : decode cX35_keyword 116 = .ok (.iconst 0, 1) := dc_3 (by decide +kernel)
theorem dX35_keyword_117 : decode cX35_keyword 117 = .ok (.ireturn, 1) := dc_172 (by decide +kernel)
theorem GX35_237 {w : eW} {d : Nat} {Y : eY} {pc : Nat} {ls : eL} {st : List Value} {h : eH} {Q : eO → eH → Prop} {a : Nat} {x : Nat} (hf : g_A 34 h a 123 = some x) (hd : decode Y.2.1 pc = .ok (.getfield 237, 3)) (hY : Y.1.cls = RX35) (kk : wp w d Y (pc + 3) ls (.ref x :: st) h Q) : wp w d Y pc ls (.ref a :: st) h Q := x_gA (ci := 34) (k := 123) hf hd rfl (by decide) (by rw [hY]; exact q4624) kk
theorem GX35_353 {w : eW} {d : Nat} {Y : eY} {pc : Nat} {ls : eL} {st : List Value} {h : eH} {Q : eO → eH → Prop} {a : Nat} {x : Int32} (hf : g_I 34 h a 45 = some x) (hd : decode Y.2.1 pc = .ok (.getfield 353, 3)) (hY : Y.1.cls = RX35) (kk : wp w d Y (pc + 3) ls (.int x :: st) h Q) : wp w d Y pc ls (.ref a :: st) h Q := x_gI (ci := 34) (k := 45) hf hd rfl (by decide) (by rw [hY]; exact q4547) kk
def fX35_keyword_b92 (N : Nat) (sE : Nat → Int32 → eH → Option (Unit × eH)) : Nat → Nat → Int32 → Int32 → eH → Option (Int32 × eH)
  | 0, _, _, _, _ => none
  | n + 1, l0, l2, l5, h =>
    if l5 < 0 then
      some ((0 : Int32), h)
    else
      (g_A 34 h l0 123).bind fun a2 =>
      (r_I 100 h a2 (l2 + l5)).bind fun x4 =>
      (k_ok 34 h l0).bind fun _ =>
      (fX35_put l0 x4 h).bind fun q7 =>
      fX35_keyword_b92 N sE n l0 l2 (l5 + (-1 : Int32)) q7.2
theorem pX35_keyword_b92 {w : eW} {d : Nat} {dr : Nat} (hd : dr + 6 ≤ d + 1) (hdr : 12 ≤ dr) {N : Nat} {sE : Nat → Int32 → eH → Option (Unit × eH)} (hsE : ∀ a t0 h q, sE a t0 h = some q → wm w dr YX35_expand [.ref a, .int t0] h (e_is (e_rn c_V q))) : ∀ (n : Nat) l0 l2 l5 h q, fX35_keyword_b92 N sE n l0 l2 l5 h = some q → wp w (d + 1) YX35_keyword 92 [some (.ref l0), none, some (.int l2), none, none, some (.int l5)] [] h (e_is (e_rn c_I q)) := by
  intro n
  induction n with
  | zero => intro l0 l2 l5 h q hf; simp [fX35_keyword_b92] at hf
  | succ n ih =>
    intro l0 l2 l5 h q hf
    rw [fX35_keyword_b92] at hf
    refine w_iload dX35_keyword_92 rfl ?_
    refine w_if_lt 116 dX35_keyword_94 (by decide) (fun c1 => ?_) (fun c1 => ?_)
    · replace hf := (if_pos (show l5 < 0 from c1)).symm.trans hf
      refine w_iconst dX35_keyword_116 (v := 0) (by decide) ?_
      cases hf
      exact w_iret dX35_keyword_117 rfl rfl rfl
    · replace hf := (if_neg (show ¬ (l5 < 0) from c1)).symm.trans hf
      refine w_aload_n dX35_keyword_97 rfl rfl ?_
      refine w_aload_n dX35_keyword_98 rfl rfl ?_
      obtain ⟨a2, b3, hf⟩ := Option.bind_eq_some_iff.mp hf
      refine GX35_237 b3 dX35_keyword_99 rfl ?_
      refine w_iload_n dX35_keyword_102 rfl rfl ?_
      refine w_iload dX35_keyword_103 rfl ?_
      refine w_iadd dX35_keyword_105 ?_
      obtain ⟨x4, b5, hf⟩ := Option.bind_eq_some_iff.mp hf
      refine x_rI b5 dX35_keyword_106 ?_
      obtain ⟨_, b6, hf⟩ := Option.bind_eq_some_iff.mp hf
      refine x_cnV hf (e_stV (Yc := YX35_put) (ci := 34) (av := [.int x4]) (st := []) dX35_keyword_107 q5181 mX35_put rfl (k_ok_some b6).1 (k_ok_some b6).2) mX35_put.2.2.1 mX35_put.2.2.2.2.1 (Nat.le_of_ble_eq_true rfl) (Nat.le_of_ble_eq_true rfl) (fun q hq => pX35_put (by omega) hq) (fun q7 hf => ?_)
      refine w_iinc dX35_keyword_110 (v := (l5 + (-1 : Int32))) rfl rfl (by decide) (ls' := [some (.ref l0), none, some (.int l2), none, none, some (.int (l5 + (-1 : Int32)))]) rfl ?_
      refine w_goto 92 dX35_keyword_113 (by decide) ?_
      exact (ih _ _ _ _ _ hf).to ⟨rfl, rfl, rfl, trivial⟩
def fX35_keyword_b35 (N : Nat) (sE : Nat → Int32 → eH → Option (Unit × eH)) : Nat → Nat → Nat → Int32 → Int32 → Int32 → eH → Option (Int32 × eH)
  | 0, _, _, _, _, _, _ => none
  | n + 1, l0, l1, l2, l3, l4, h =>
    (s_ok l1).bind fun _ =>
    (fJ1_charAt l1 l3 h).bind fun q2 =>
    (k_ok 34 q2.2 l0).bind fun _ =>
    (fX35_isLetter l0 l4 q2.1 q2.2).bind fun q4 =>
    if q4.1 = 0 then
      (k_ok 34 q4.2 l0).bind fun _ =>
      (fX35_put l0 l4 q4.2).bind fun q7 =>
      fX35_keyword_b92 N sE N l0 l2 (l3 - (1 : Int32)) q7.2
    else
      (g_A 34 q4.2 l0 123).bind fun a8 =>
      (q_V 100 q4.2 a8 (l2 + l3) (.int l4)).bind fun h10 =>
      (s_ok l1).bind fun _ =>
      (fJ1_length l1 h10).bind fun q13 =>
      if ¬ (l3 + (1 : Int32)) = q13.1 then
        (k_ok 34 q13.2 l0).bind fun _ =>
        (fX35_getExpanded N sE l0 q13.2).bind fun q16 =>
        fX35_keyword_b35 N sE n l0 l1 l2 (l3 + (1 : Int32)) q16.1 q16.2
      else
        some ((1 : Int32), q13.2)
theorem pX35_keyword_b35 {w : eW} {d : Nat} {dr : Nat} (hd : dr + 6 ≤ d + 1) (hdr : 12 ≤ dr) {N : Nat} {sE : Nat → Int32 → eH → Option (Unit × eH)} (hsE : ∀ a t0 h q, sE a t0 h = some q → wm w dr YX35_expand [.ref a, .int t0] h (e_is (e_rn c_V q))) : ∀ (n : Nat) l0 l1 l2 l3 l4 h q, fX35_keyword_b35 N sE n l0 l1 l2 l3 l4 h = some q → wp w (d + 1) YX35_keyword 35 [some (.ref l0), some (.ref l1), some (.int l2), some (.int l3), some (.int l4), none] [] h (e_is (e_rn c_I q)) := by
  intro n
  induction n with
  | zero => intro l0 l1 l2 l3 l4 h q hf; simp [fX35_keyword_b35] at hf
  | succ n ih =>
    intro l0 l1 l2 l3 l4 h q hf
    rw [fX35_keyword_b35] at hf
    refine w_aload_n dX35_keyword_35 rfl rfl ?_
    refine w_iload dX35_keyword_36 rfl ?_
    refine w_aload_n dX35_keyword_38 rfl rfl ?_
    refine w_iload_n dX35_keyword_39 rfl rfl ?_
    obtain ⟨_, b1, hf⟩ := Option.bind_eq_some_iff.mp hf
    refine x_cnI hf (e_stVO (Yc := YJ1_charAt) (av := [.int l3]) (st := [.int l4, .ref l0]) dX35_keyword_40 q4496 mJ1_charAt b1) mJ1_charAt.2.2.1 mJ1_charAt.2.2.2.2.1 (Nat.le_of_ble_eq_true rfl) (Nat.le_of_ble_eq_true rfl) (fun q hq => pJ1_charAt (by omega) hq) (fun q2 hf => ?_)
    obtain ⟨_, b3, hf⟩ := Option.bind_eq_some_iff.mp hf
    refine x_cnI hf (e_stV (Yc := YX35_isLetter) (ci := 34) (av := [.int l4, .int q2.1]) (st := []) dX35_keyword_43 q5351 mX35_isLetter rfl (k_ok_some b3).1 (k_ok_some b3).2) mX35_isLetter.2.2.1 mX35_isLetter.2.2.2.2.1 (Nat.le_of_ble_eq_true rfl) (Nat.le_of_ble_eq_true rfl) (fun q hq => pX35_isLetter (by omega) hq) (fun q4 hf => ?_)
    refine w_if_eq 81 dX35_keyword_46 (by decide) (fun c5 => ?_) (fun c5 => ?_)
    · replace hf := (if_pos (show q4.1 = 0 from c5)).symm.trans hf
      refine w_aload_n dX35_keyword_81 rfl rfl ?_
      refine w_iload dX35_keyword_82 rfl ?_
      obtain ⟨_, b6, hf⟩ := Option.bind_eq_some_iff.mp hf
      refine x_cnV hf (e_stV (Yc := YX35_put) (ci := 34) (av := [.int l4]) (st := []) dX35_keyword_84 q5181 mX35_put rfl (k_ok_some b6).1 (k_ok_some b6).2) mX35_put.2.2.1 mX35_put.2.2.2.2.1 (Nat.le_of_ble_eq_true rfl) (Nat.le_of_ble_eq_true rfl) (fun q hq => pX35_put (by omega) hq) (fun q7 hf => ?_)
      refine w_iload_n dX35_keyword_87 rfl rfl ?_
      refine w_iconst dX35_keyword_88 (v := 1) (by decide) ?_
      refine w_isub dX35_keyword_89 ?_
      refine w_istore dX35_keyword_90 (by decide) (ls' := [some (.ref l0), some (.ref l1), some (.int l2), some (.int l3), some (.int l4), some (.int (l3 - (1 : Int32)))]) rfl ?_
      exact (pX35_keyword_b92 hd hdr hsE N _ _ _ _ _ hf).to ⟨rfl, rfl, rfl, trivial⟩
    · replace hf := (if_neg (show ¬ (q4.1 = 0) from c5)).symm.trans hf
      refine w_aload_n dX35_keyword_49 rfl rfl ?_
      obtain ⟨a8, b9, hf⟩ := Option.bind_eq_some_iff.mp hf
      refine GX35_237 b9 dX35_keyword_50 rfl ?_
      refine w_iload_n dX35_keyword_53 rfl rfl ?_
      refine w_iload_n dX35_keyword_54 rfl rfl ?_
      refine w_iadd dX35_keyword_55 ?_
      refine w_iload dX35_keyword_56 rfl ?_
      obtain ⟨h10, b11, hf⟩ := Option.bind_eq_some_iff.mp hf
      refine x_qI b11 dX35_keyword_58 ?_
      refine w_iinc dX35_keyword_59 (v := (l3 + (1 : Int32))) rfl rfl (by decide) (ls' := [some (.ref l0), some (.ref l1), some (.int l2), some (.int (l3 + (1 : Int32))), some (.int l4), none]) rfl ?_
      refine w_iload_n dX35_keyword_62 rfl rfl ?_
      refine w_aload_n dX35_keyword_63 rfl rfl ?_
      obtain ⟨_, b12, hf⟩ := Option.bind_eq_some_iff.mp hf
      refine x_cnI hf (e_stVO (Yc := YJ1_length) (av := []) (st := [.int (l3 + (1 : Int32))]) dX35_keyword_64 q4495 mJ1_length b12) mJ1_length.2.2.1 mJ1_length.2.2.2.2.1 (Nat.le_of_ble_eq_true rfl) (Nat.le_of_ble_eq_true rfl) (fun q hq => pJ1_length (by omega) hq) (fun q13 hf => ?_)
      refine w_icmp_ne 72 dX35_keyword_67 (by decide) (fun c14 => ?_) (fun c14 => ?_)
      · replace hf := (if_pos (show ¬ (l3 + (1 : Int32)) = q13.1 from c14)).symm.trans hf
        refine w_aload_n dX35_keyword_72 rfl rfl ?_
        obtain ⟨_, b15, hf⟩ := Option.bind_eq_some_iff.mp hf
        refine x_cnI hf (e_stV (Yc := YX35_getExpanded) (ci := 34) (av := []) (st := []) dX35_keyword_73 q5077 mX35_getExpanded rfl (k_ok_some b15).1 (k_ok_some b15).2) mX35_getExpanded.2.2.1 mX35_getExpanded.2.2.2.2.1 (Nat.le_of_ble_eq_true rfl) (Nat.le_of_ble_eq_true rfl) (fun q hq => pX35_getExpanded (by omega) hdr hsE hq) (fun q16 hf => ?_)
        refine w_istore dX35_keyword_76 (by decide) (ls' := [some (.ref l0), some (.ref l1), some (.int l2), some (.int (l3 + (1 : Int32))), some (.int q16.1), none]) rfl ?_
        refine w_goto 35 dX35_keyword_78 (by decide) ?_
        exact (ih _ _ _ _ _ _ _ hf).to ⟨rfl, rfl, rfl, rfl, rfl, trivial⟩
      · replace hf := (if_neg (show ¬ (¬ (l3 + (1 : Int32)) = q13.1) from (fun z => z c14))).symm.trans hf
        refine w_iconst dX35_keyword_70 (v := 1) (by decide) ?_
        cases hf
        exact w_iret dX35_keyword_71 rfl rfl rfl
def fX35_keyword_b16 (N : Nat) (sE : Nat → Int32 → eH → Option (Unit × eH)) : Nat → Nat → Nat → Int32 → Int32 → Int32 → eH → Option (Int32 × eH)
  | 0, _, _, _, _, _, _ => none
  | n + 1, l0, l1, l2, l3, l4, h =>
    (fX35_isOf l4 (10 : Int32) h).bind fun q1 =>
    if q1.1 = 0 then
      fX35_keyword_b35 N sE N l0 l1 l2 l3 l4 q1.2
    else
      (k_ok 34 q1.2 l0).bind fun _ =>
      (fX35_getExpanded N sE l0 q1.2).bind fun q4 =>
      fX35_keyword_b16 N sE n l0 l1 l2 l3 q4.1 q4.2
theorem pX35_keyword_b16 {w : eW} {d : Nat} {dr : Nat} (hd : dr + 6 ≤ d + 1) (hdr : 12 ≤ dr) {N : Nat} {sE : Nat → Int32 → eH → Option (Unit × eH)} (hsE : ∀ a t0 h q, sE a t0 h = some q → wm w dr YX35_expand [.ref a, .int t0] h (e_is (e_rn c_V q))) : ∀ (n : Nat) l0 l1 l2 l3 l4 h q, fX35_keyword_b16 N sE n l0 l1 l2 l3 l4 h = some q → wp w (d + 1) YX35_keyword 16 [some (.ref l0), some (.ref l1), some (.int l2), some (.int l3), some (.int l4), none] [] h (e_is (e_rn c_I q)) := by
  intro n
  induction n with
  | zero => intro l0 l1 l2 l3 l4 h q hf; simp [fX35_keyword_b16] at hf
  | succ n ih =>
    intro l0 l1 l2 l3 l4 h q hf
    rw [fX35_keyword_b16] at hf
    refine w_iload dX35_keyword_16 rfl ?_
    refine w_bipush dX35_keyword_18 (v := 10) (by decide) ?_
    refine x_cnI hf (e_stS (Yc := YX35_isOf) (av := [.int l4, .int (10 : Int32)]) (st := []) dX35_keyword_20 q5166 mX35_isOf) mX35_isOf.2.2.1 mX35_isOf.2.2.2.2.1 (Nat.le_of_ble_eq_true rfl) (Nat.le_of_ble_eq_true rfl) (fun q hq => pX35_isOf (by omega) hq) (fun q1 hf => ?_)
    refine w_if_eq 35 dX35_keyword_23 (by decide) (fun c2 => ?_) (fun c2 => ?_)
    · replace hf := (if_pos (show q1.1 = 0 from c2)).symm.trans hf
      exact (pX35_keyword_b35 hd hdr hsE N _ _ _ _ _ _ _ hf).to ⟨rfl, rfl, rfl, rfl, rfl, trivial⟩
    · replace hf := (if_neg (show ¬ (q1.1 = 0) from c2)).symm.trans hf
      refine w_aload_n dX35_keyword_26 rfl rfl ?_
      obtain ⟨_, b3, hf⟩ := Option.bind_eq_some_iff.mp hf
      refine x_cnI hf (e_stV (Yc := YX35_getExpanded) (ci := 34) (av := []) (st := []) dX35_keyword_27 q5077 mX35_getExpanded rfl (k_ok_some b3).1 (k_ok_some b3).2) mX35_getExpanded.2.2.1 mX35_getExpanded.2.2.2.2.1 (Nat.le_of_ble_eq_true rfl) (Nat.le_of_ble_eq_true rfl) (fun q hq => pX35_getExpanded (by omega) hdr hsE hq) (fun q4 hf => ?_)
      refine w_istore dX35_keyword_30 (by decide) (ls' := [some (.ref l0), some (.ref l1), some (.int l2), some (.int l3), some (.int q4.1), none]) rfl ?_
      refine w_goto 16 dX35_keyword_32 (by decide) ?_
      exact (ih _ _ _ _ _ _ _ hf).to ⟨rfl, rfl, rfl, rfl, rfl, trivial⟩
def fX35_keyword (N : Nat) (sE : Nat → Int32 → eH → Option (Unit × eH)) (this : Nat) (p0 : Nat) (h : eH) : Option (Int32 × eH) :=
  (g_I 34 h this 45).bind fun x1 =>
  (k_ok 34 h this).bind fun _ =>
  (fX35_getExpanded N sE this h).bind fun q4 =>
  fX35_keyword_b16 N sE N this p0 ((17 : Int32) * x1) (0 : Int32) q4.1 q4.2
theorem pX35_keyword {w : eW} {d : Nat} {dr : Nat} (hd : dr + 6 ≤ d) (hdr : 12 ≤ dr) {N : Nat} {sE : Nat → Int32 → eH → Option (Unit × eH)} (hsE : ∀ a t0 h q, sE a t0 h = some q → wm w dr YX35_expand [.ref a, .int t0] h (e_is (e_rn c_V q))) {this : Nat} {p0 : Nat} {h : eH} {q} (hf : fX35_keyword N sE this p0 h = some q) : wm w d YX35_keyword [.ref this, .ref p0] h (e_is (e_rn c_I q)) := by
  obtain ⟨d, rfl⟩ : ∃ e, d = e + 1 := ⟨d - 1, by omega⟩
  show wp w (d + 1) YX35_keyword 0 [some (.ref this), some (.ref p0), none, none, none, none] [] h _
  unfold fX35_keyword at hf
  refine w_bipush dX35_keyword_0 (v := 17) (by decide) ?_
  refine w_aload_n dX35_keyword_2 rfl rfl ?_
  obtain ⟨x1, b2, hf⟩ := Option.bind_eq_some_iff.mp hf
  refine GX35_353 b2 dX35_keyword_3 rfl ?_
  refine w_imul dX35_keyword_6 ?_
  refine w_istore_n dX35_keyword_7 rfl (by decide) (ls' := [some (.ref this), some (.ref p0), some (.int ((17 : Int32) * x1)), none, none, none]) rfl ?_
  refine w_iconst dX35_keyword_8 (v := 0) (by decide) ?_
  refine w_istore_n dX35_keyword_9 rfl (by decide) (ls' := [some (.ref this), some (.ref p0), some (.int ((17 : Int32) * x1)), some (.int (0 : Int32)), none, none]) rfl ?_
  refine w_aload_n dX35_keyword_10 rfl rfl ?_
  obtain ⟨_, b3, hf⟩ := Option.bind_eq_some_iff.mp hf
  refine x_cnI hf (e_stV (Yc := YX35_getExpanded) (ci := 34) (av := []) (st := []) dX35_keyword_11 q5077 mX35_getExpanded rfl (k_ok_some b3).1 (k_ok_some b3).2) mX35_getExpanded.2.2.1 mX35_getExpanded.2.2.2.2.1 (Nat.le_of_ble_eq_true rfl) (Nat.le_of_ble_eq_true rfl) (fun q hq => pX35_getExpanded (by omega) hdr hsE hq) (fun q4 hf => ?_)
  refine w_istore dX35_keyword_14 (by decide) (ls' := [some (.ref this), some (.ref p0), some (.int ((17 : Int32) * x1)), some (.int (0 : Int32)), some (.int q4.1), none]) rfl ?_
  exact (pX35_keyword_b16 hd hdr hsE N _ _ _ _ _ _ _ hf).to ⟨rfl, rfl, rfl, rfl, rfl, trivial⟩
abbrev cX35_times : ByteArray := prog_37_method_88_code
def yX35_times : MethodName := ⟨RX35, "times", "(JJJJ)J"⟩
def YX35_times : eY := (yX35_times, cX35_times, 18, (Option.some FieldType.long), [])
theorem mX35_times : e_ms YX35_times 4 := ⟨q5359, q466, q5360, by decide, by decide +kernel, (e_sig (by decide +kernel))⟩
theorem dX35_times_0 : decode cX35_times 0 = .ok (.lload_n 0, 1) := dc_30 (by decide +kernel)
theorem dX35_times_1 : decode cX35_times 1 = .ok (.lload 4, 2) := dc_22 (a := 4) (by decide +kernel)
theorem dX35_times_3 : decode cX35_times 3 = .ok (.lmul, 1) := dc_105 (by decide +kernel)
theorem dX35_times_4 : decode cX35_times 4 = .ok (.lstore 8, 2) := dc_55 (a := 8) (by decide +kernel)
theorem dX35_times_6 : decode cX35_times 6 = .ok (.lload_n 2, 1) := dc_32 (by decide +kernel)
theorem dX35_times_7 : decode cX35_times 7 = .ok (.lload 6, 2) := dc_22 (a := 6) (by decide +kernel)
theorem dX35_times_9 : decode cX35_times 9 = .ok (.lmul, 1) := dc_105 (by decide +kernel)
theorem dX35_times_10 : decode cX35_times 10 = .ok (.lstore 10, 2) := dc_55 (a := 10) (by decide +kernel)
theorem dX35_times_12 : decode cX35_times 12 = .ok (.lload 8, 2) := dc_22 (a := 8) (by decide +kernel)
theorem dX35_times_14 : decode cX35_times 14 = .ok (.lconst 0, 1) := dc_9 (by decide +kernel)
theorem dX35_times_15 : decode cX35_times 15 = .ok (.lcmp, 1) := dc_148 (by decide +kernel)
theorem dX35_times_16 : decode cX35_times 16 = .ok (.ifCond .ge 9, 3) := dc_156 (a := 0) (b := 9) (v := 9) (by decide +kernel)
theorem dX35_times_19 : decode cX35_times 19 = .ok (.lload 8, 2) := dc_22 (a := 8) (by decide +kernel)
theorem dX35_times_21 : decode cX35_times 21 = .ok (.lneg, 1) := dc_117 (by decide +kernel)
theorem dX35_times_22 : decode cX35_times 22 = .ok (.goto 5, 3) := dc_167 (a := 0) (b := 5) (v := 5) (by decide +kernel)
theorem dX35_times_25 : decode cX35_times 25 = .ok (.lload 8, 2) := dc_22 (a := 8) (by decide +kernel)
theorem dX35_times_27 : decode cX35_times 27 = .ok (.lstore 12, 2) := dc_55 (a := 12) (by decide +kernel)
theorem dX35_times_29 : decode cX35_times 29 = .ok (.lload 12, 2) := dc_22 (a := 12) (by decide +kernel)
theorem dX35_times_31 : decode cX35_times 31 = .ok (.lload 10, 2) := dc_22 (a := 10) (by decide +kernel)
theorem dX35_times_33 : decode cX35_times 33 = .ok (.ldiv, 1) := dc_109 (by decide +kernel)
theorem dX35_times_34 : decode cX35_times 34 = .ok (.lstore 14, 2) := dc_55 (a := 14) (by decide +kernel)
theorem dX35_times_36 : decode cX35_times 36 = .ok (.lload 12, 2) := dc_22 (a := 12) (by decide +kernel)
theorem dX35_times_38 : decode cX35_times 38 = .ok (.lload 10, 2) := dc_22 (a := 10) (by decide +kernel)
theorem dX35_times_40 : decode cX35_times 40 = .ok (.lrem, 1) := dc_113 (by decide +kernel)
theorem dX35_times_41 : decode cX35_times 41 = .ok (.lstore 16, 2) := dc_55 (a := 16) (by decide +kernel)
theorem dX35_times_43 : decode cX35_times 43 = .ok (.lload 16, 2) := dc_22 (a := 16) (by decide +kernel)
theorem dX35_times_45 : decode cX35_times 45 = .ok (.lload 10, 2) := dc_22 (a := 10) (by decide +kernel)
theorem dX35_times_47 : decode cX35_times 47 = .ok (.lload 16, 2) := dc_22 (a := 16) (by decide +kernel)
theorem dX35_times_49 : decode cX35_times 49 = .ok (.lsub, 1) := dc_101 (by decide +kernel)
theorem dX35_times_50 : decode cX35_times 50 = .ok (.lcmp, 1) := dc_148 (by decide +kernel)
theorem dX35_times_51 : decode cX35_times 51 = .ok (.ifCond .lt 10, 3) := dc_155 (a := 0) (b := 10) (v := 10) (by decide +kernel)
theorem dX35_times_54 : decode cX35_times 54 = .ok (.lload 14, 2) := dc_22 (a := 14) (by decide +kernel)
theorem dX35_times_56 : decode cX35_times 56 = .ok (.lconst 1, 1) := dc_10 (by decide +kernel)
theorem dX35_times_57 : decode cX35_times 57 = .ok (.ladd, 1) := dc_97 (by decide +kernel)
theorem dX35_times_58 : decode cX35_times 58 = .ok (.goto 5, 3) := dc_167 (a := 0) (b := 5) (v := 5) (by decide +kernel)
theorem dX35_times_61 : decode cX35_times 61 = .ok (.lload 14, 2) := dc_22 (a := 14) (by decide +kernel)
theorem dX35_times_63 : decode cX35_times 63 = .ok (.lstore 14, 2) := dc_55 (a := 14) (by decide +kernel)
theorem dX35_times_65 : decode cX35_times 65 = .ok (.lload 8, 2) := dc_22 (a := 8) (by decide +kernel)
theorem dX35_times_67 : decode cX35_times 67 = .ok (.lconst 0, 1) := dc_9 (by decide +kernel)
theorem dX35_times_68 : decode cX35_times 68 = .ok (.lcmp, 1) := dc_148 (by decide +kernel)
theorem dX35_times_69 : decode cX35_times 69 = .ok (.ifCond .ge 9, 3) := dc_156 (a := 0) (b := 9) (v := 9) (by decide +kernel)
theorem dX35_times_72 : decode cX35_times 72 = .ok (.lload 14, 2) := dc_22 (a := 14) (by decide +kernel)
theorem dX35_times_74 : decode cX35_times 74 = .ok (.lneg, 1) := dc_117 (by decide +kernel)
theorem dX35_times_75 : decode cX35_times 75 = .ok (.goto 5, 3) := dc_167 (a := 0) (b := 5) (v := 5) (by decide +kernel)
theorem dX35_times_78 : decode cX35_times 78 = .ok (.lload 14, 2) := dc_22 (a := 14) (by decide +kernel)
theorem dX35_times_80 : decode cX35_times 80 = .ok (.lreturn, 1) := dc_173 (by decide +kernel)
def fX35_times_b80 (s0 : Int64) (h : eH) : Option (Int64 × eH) :=
  some (s0, h)
theorem pX35_times_b80 {w : eW} {d : Nat} (hd : 0 ≤ d) {s0 : Int64} {h : eH} {q} (hf : fX35_times_b80 s0 h = some q) : wp w d YX35_times 80 [none, none, none, none, none, none, none, none, none, none, none, none, none, none, none, none, none, none] [.long s0] h (e_is (e_rn c_J q)) := by
  unfold fX35_times_b80 at hf
  cases hf
  exact w_lret dX35_times_80 rfl rfl
def fX35_times_b63 (l8 : Int64) (s0 : Int64) (h : eH) : Option (Int64 × eH) :=
  if 0 ≤ (lg_cmp l8 (0 : Int64)) then
    fX35_times_b80 s0 h
  else
    fX35_times_b80 (-s0) h
theorem pX35_times_b63 {w : eW} {d : Nat} (hd : 0 ≤ d) {l8 : Int64} {s0 : Int64} {h : eH} {q} (hf : fX35_times_b63 l8 s0 h = some q) : wp w d YX35_times 63 [none, none, none, none, none, none, none, none, some (.long l8), none, none, none, none, none, none, none, none, none] [.long s0] h (e_is (e_rn c_J q)) := by
  unfold fX35_times_b63 at hf
  refine w_lstore dX35_times_63 (by decide) (ls' := [none, none, none, none, none, none, none, none, some (.long l8), none, none, none, none, none, some (.long s0), none, none, none]) rfl ?_
  refine w_lload dX35_times_65 rfl ?_
  refine w_lconst dX35_times_67 (v := 0) (by decide) ?_
  refine w_lcmp dX35_times_68 ?_
  refine w_if_ge 78 dX35_times_69 (by decide) (fun c1 => ?_) (fun c1 => ?_)
  · replace hf := (if_pos (show 0 ≤ (lg_cmp l8 (0 : Int64)) from c1)).symm.trans hf
    refine w_lload dX35_times_78 rfl ?_
    exact (pX35_times_b80 hd hf).to trivial
  · replace hf := (if_neg (show ¬ (0 ≤ (lg_cmp l8 (0 : Int64))) from c1)).symm.trans hf
    refine w_lload dX35_times_72 rfl ?_
    refine w_lneg dX35_times_74 ?_
    refine w_goto 80 dX35_times_75 (by decide) ?_
    exact (pX35_times_b80 hd hf).to trivial
def fX35_times_b27 (l8 : Int64) (l10 : Int64) (s0 : Int64) (h : eH) : Option (Int64 × eH) :=
  if l10 = 0 then none else
  if l10 = 0 then none else
  if (lg_cmp (s0 - s0 / l10 * l10) (l10 - (s0 - s0 / l10 * l10))) < 0 then
    fX35_times_b63 l8 (s0 / l10) h
  else
    fX35_times_b63 l8 ((s0 / l10) + (1 : Int64)) h
theorem pX35_times_b27 {w : eW} {d : Nat} (hd : 0 ≤ d) {l8 : Int64} {l10 : Int64} {s0 : Int64} {h : eH} {q} (hf : fX35_times_b27 l8 l10 s0 h = some q) : wp w d YX35_times 27 [none, none, none, none, none, none, none, none, some (.long l8), none, some (.long l10), none, none, none, none, none, none, none] [.long s0] h (e_is (e_rn c_J q)) := by
  unfold fX35_times_b27 at hf
  refine w_lstore dX35_times_27 (by decide) (ls' := [none, none, none, none, none, none, none, none, some (.long l8), none, some (.long l10), none, some (.long s0), none, none, none, none, none]) rfl ?_
  refine w_lload dX35_times_29 rfl ?_
  refine w_lload dX35_times_31 rfl ?_
  by_cases c1 : l10 = 0
  · exact absurd ((if_pos c1).symm.trans hf) (by simp)
  replace hf := (if_neg c1).symm.trans hf
  refine w_ldiv dX35_times_33 c1 ?_
  refine w_lstore dX35_times_34 (by decide) (ls' := [none, none, none, none, none, none, none, none, some (.long l8), none, some (.long l10), none, some (.long s0), none, some (.long (s0 / l10)), none, none, none]) rfl ?_
  refine w_lload dX35_times_36 rfl ?_
  refine w_lload dX35_times_38 rfl ?_
  by_cases c2 : l10 = 0
  · exact absurd ((if_pos c2).symm.trans hf) (by simp)
  replace hf := (if_neg c2).symm.trans hf
  refine w_lrem dX35_times_40 c2 ?_
  refine w_lstore dX35_times_41 (by decide) (ls' := [none, none, none, none, none, none, none, none, some (.long l8), none, some (.long l10), none, some (.long s0), none, some (.long (s0 / l10)), none, some (.long (s0 - s0 / l10 * l10)), none]) rfl ?_
  refine w_lload dX35_times_43 rfl ?_
  refine w_lload dX35_times_45 rfl ?_
  refine w_lload dX35_times_47 rfl ?_
  refine w_lsub dX35_times_49 ?_
  refine w_lcmp dX35_times_50 ?_
  refine w_if_lt 61 dX35_times_51 (by decide) (fun c3 => ?_) (fun c3 => ?_)
  · replace hf := (if_pos (show (lg_cmp (s0 - s0 / l10 * l10) (l10 - (s0 - s0 / l10 * l10))) < 0 from c3)).symm.trans hf
    refine w_lload dX35_times_61 rfl ?_
    exact (pX35_times_b63 hd hf).to ⟨rfl, trivial⟩
  · replace hf := (if_neg (show ¬ ((lg_cmp (s0 - s0 / l10 * l10) (l10 - (s0 - s0 / l10 * l10))) < 0) from c3)).symm.trans hf
    refine w_lload dX35_times_54 rfl ?_
    refine w_lconst dX35_times_56 (v := 1) (by decide) ?_
    refine w_ladd dX35_times_57 ?_
    refine w_goto 63 dX35_times_58 (by decide) ?_
    exact (pX35_times_b63 hd hf).to ⟨rfl, trivial⟩
def fX35_times (p0 : Int64) (p1 : Int64) (p2 : Int64) (p3 : Int64) (h : eH) : Option (Int64 × eH) :=
  if 0 ≤ (lg_cmp (p0 * p2) (0 : Int64)) then
    fX35_times_b27 (p0 * p2) (p1 * p3) (p0 * p2) h
  else
    fX35_times_b27 (p0 * p2) (p1 * p3) (-(p0 * p2)) h
theorem pX35_times {w : eW} {d : Nat} (hd : 0 ≤ d) {p0 : Int64} {p1 : Int64} {p2 : Int64} {p3 : Int64} {h : eH} {q} (hf : fX35_times p0 p1 p2 p3 h = some q) : wm w d YX35_times [.long p0, .long p1, .long p2, .long p3] h (e_is (e_rn c_J q)) := by
  show wp w d YX35_times 0 [some (.long p0), none, some (.long p1), none, some (.long p2), none, some (.long p3), none, none, none, none, none, none, none, none, none, none, none] [] h _
  unfold fX35_times at hf
  refine w_lload_n dX35_times_0 rfl rfl ?_
  refine w_lload dX35_times_1 rfl ?_
  refine w_lmul dX35_times_3 ?_
  refine w_lstore dX35_times_4 (by decide) (ls' := [some (.long p0), none, some (.long p1), none, some (.long p2), none, some (.long p3), none, some (.long (p0 * p2)), none, none, none, none, none, none, none, none, none]) rfl ?_
  refine w_lload_n dX35_times_6 rfl rfl ?_
  refine w_lload dX35_times_7 rfl ?_
  refine w_lmul dX35_times_9 ?_
  refine w_lstore dX35_times_10 (by decide) (ls' := [some (.long p0), none, some (.long p1), none, some (.long p2), none, some (.long p3), none, some (.long (p0 * p2)), none, some (.long (p1 * p3)), none, none, none, none, none, none, none]) rfl ?_
  refine w_lload dX35_times_12 rfl ?_
  refine w_lconst dX35_times_14 (v := 0) (by decide) ?_
  refine w_lcmp dX35_times_15 ?_
  refine w_if_ge 25 dX35_times_16 (by decide) (fun c1 => ?_) (fun c1 => ?_)
  · replace hf := (if_pos (show 0 ≤ (lg_cmp (p0 * p2) (0 : Int64)) from c1)).symm.trans hf
    refine w_lload dX35_times_25 rfl ?_
    exact (pX35_times_b27 hd hf).to ⟨rfl, rfl, trivial⟩
  · replace hf := (if_neg (show ¬ (0 ≤ (lg_cmp (p0 * p2) (0 : Int64))) from c1)).symm.trans hf
    refine w_lload dX35_times_19 rfl ?_
    refine w_lneg dX35_times_21 ?_
    refine w_goto 27 dX35_times_22 (by decide) ?_
    exact (pX35_times_b27 hd hf).to ⟨rfl, rfl, trivial⟩
abbrev cX35_unitName : ByteArray := prog_37_method_90_code
def yX35_unitName : MethodName := ⟨RX35, "unitName", "(I)Ljava/lang/String;"⟩
def YX35_unitName : eY := (yX35_unitName, cX35_unitName, 1, (Option.some (FieldType.object "java/lang/String")), [])
theorem mX35_unitName : e_ms YX35_unitName 1 := ⟨q5374, q466, q5375, by decide, by decide +kernel, (e_sig (by decide +kernel))⟩
theorem dX35_unitName_0 : decode cX35_unitName 0 = .ok (.iload_n 0, 1) := dc_26 (by decide +kernel)
theorem dX35_unitName_1 : decode cX35_unitName 1 = .ok (.tableswitch 71 0 6 #[43, 47, 51, 55, 59, 63, 67], 43) := by decide +kernel
theorem dX35_unitName_44 : decode cX35_unitName 44 = .ok (.ldc_w 685, 3) := dc_19 (a := 2) (b := 173) (n := 685) (by decide +kernel)
theorem dX35_unitName_47 : decode cX35_unitName 47 = .ok (.areturn, 1) := dc_176 (by decide +kernel)
theorem dX35_unitName_48 : decode cX35_unitName 48 = .ok (.ldc_w 687, 3) := dc_19 (a := 2) (b := 175) (n := 687) (by decide +kernel)
theorem dX35_unitName_51 : decode cX35_unitName 51 = .ok (.areturn, 1) := dc_176 (by decide +kernel)
theorem dX35_unitName_52 : decode cX35_unitName 52 = .ok (.ldc_w 689, 3) := dc_19 (a := 2) (b := 177) (n := 689) (by decide +kernel)
theorem dX35_unitName_55 : decode cX35_unitName 55 = .ok (.areturn, 1) := dc_176 (by decide +kernel)
theorem dX35_unitName_56 : decode cX35_unitName 56 = .ok (.ldc_w 691, 3) := dc_19 (a := 2) (b := 179) (n := 691) (by decide +kernel)
theorem dX35_unitName_59 : decode cX35_unitName 59 = .ok (.areturn, 1) := dc_176 (by decide +kernel)
theorem dX35_unitName_60 : decode cX35_unitName 60 = .ok (.ldc_w 693, 3) := dc_19 (a := 2) (b := 181) (n := 693) (by decide +kernel)
theorem dX35_unitName_63 : decode cX35_unitName 63 = .ok (.areturn, 1) := dc_176 (by decide +kernel)
theorem dX35_unitName_64 : decode cX35_unitName 64 = .ok (.ldc_w 695, 3) := dc_19 (a := 2) (b := 183) (n := 695) (by decide +kernel)
theorem dX35_unitName_67 : decode cX35_unitName 67 = .ok (.areturn, 1) := dc_176 (by decide +kernel)
theorem dX35_unitName_68 : decode cX35_unitName 68 = .ok (.ldc_w 697, 3) := dc_19 (a := 2) (b := 185) (n := 697) (by decide +kernel)
theorem dX35_unitName_71 : decode cX35_unitName 71 = .ok (.areturn, 1) := dc_176 (by decide +kernel)
theorem dX35_unitName_72 : decode cX35_unitName 72 = .ok (.iload_n 0, 1) := dc_26 (by decide +kernel)
theorem dX35_unitName_73 : decode cX35_unitName 73 = .ok (.bipush 7, 2) := dc_16 (a := 7) (v := 7) (by decide +kernel)
theorem dX35_unitName_75 : decode cX35_unitName 75 = .ok (.if_icmp .ne 9, 3) := dc_160 (a := 0) (b := 9) (v := 9) (by decide +kernel)
theorem dX35_unitName_78 : decode cX35_unitName 78 = .ok (.ldc_w 699, 3) := dc_19 (a := 2) (b := 187) (n := 699) (by decide +kernel)
theorem dX35_unitName_81 : decode cX35_unitName 81 = .ok (.goto 6, 3) := dc_167 (a := 0) (b := 6) (v := 6) (by decide +kernel)
theorem dX35_unitName_84 : decode cX35_unitName 84 = .ok (.ldc_w 701, 3) := dc_19 (a := 2) (b := 189) (n := 701) (by decide +kernel)
theorem dX35_unitName_87 : decode cX35_unitName 87 = .ok (.areturn, 1) := dc_176 (by decide +kernel)
def fX35_unitName_b87 (s0 : Nat) (h : eH) : Option (Nat × eH) :=
  some (s0, h)
theorem pX35_unitName_b87 {w : eW} {d : Nat} (hd : 0 ≤ d) {s0 : Nat} {h : eH} {q} (hf : fX35_unitName_b87 s0 h = some q) : wp w d YX35_unitName 87 [none] [.ref s0] h (e_is (e_rn c_A q)) := by
  unfold fX35_unitName_b87 at hf
  cases hf
  exact w_aret dX35_unitName_87 rfl (Or.inl ⟨_, rfl⟩) (Or.inr ⟨_, rfl⟩) rfl
def fX35_unitName (p0 : Int32) (h : eH) : Option (Nat × eH) :=
  if p0 = (0 : Int32) then
    some (1000000126, h)
  else
  if p0 = (1 : Int32) then
    some (1000000127, h)
  else
  if p0 = (2 : Int32) then
    some (1000000128, h)
  else
  if p0 = (3 : Int32) then
    some (1000000129, h)
  else
  if p0 = (4 : Int32) then
    some (1000000130, h)
  else
  if p0 = (5 : Int32) then
    some (1000000131, h)
  else
  if p0 = (6 : Int32) then
    some (1000000132, h)
  else
  if ¬ p0 = (7 : Int32) then
    fX35_unitName_b87 1000000134 h
  else
    fX35_unitName_b87 1000000133 h
theorem pX35_unitName {w : eW} {d : Nat} (hd : 0 ≤ d) {p0 : Int32} {h : eH} {q} (hf : fX35_unitName p0 h = some q) : wm w d YX35_unitName [.int p0] h (e_is (e_rn c_A q)) := by
  show wp w d YX35_unitName 0 [some (.int p0)] [] h _
  unfold fX35_unitName at hf
  refine w_iload_n dX35_unitName_0 rfl rfl ?_
  by_cases c1 : p0 = (0 : Int32)
  · replace hf := (if_pos c1).symm.trans hf
    refine w_tableIn 44 dX35_unitName_1 (by rw [c1]; decide) (by rw [c1]; decide) (by rw [c1]; rfl) (by decide) ?_
    refine x_ldcSw (k := 26) dX35_unitName_44 rfl ?_
    cases hf
    exact w_aret dX35_unitName_47 rfl (Or.inl ⟨_, rfl⟩) (Or.inr ⟨_, rfl⟩) rfl
  replace hf := (if_neg c1).symm.trans hf
  by_cases c2 : p0 = (1 : Int32)
  · replace hf := (if_pos c2).symm.trans hf
    refine w_tableIn 48 dX35_unitName_1 (by rw [c2]; decide) (by rw [c2]; decide) (by rw [c2]; rfl) (by decide) ?_
    refine x_ldcSw (k := 27) dX35_unitName_48 rfl ?_
    cases hf
    exact w_aret dX35_unitName_51 rfl (Or.inl ⟨_, rfl⟩) (Or.inr ⟨_, rfl⟩) rfl
  replace hf := (if_neg c2).symm.trans hf
  by_cases c3 : p0 = (2 : Int32)
  · replace hf := (if_pos c3).symm.trans hf
    refine w_tableIn 52 dX35_unitName_1 (by rw [c3]; decide) (by rw [c3]; decide) (by rw [c3]; rfl) (by decide) ?_
    refine x_ldcSw (k := 28) dX35_unitName_52 rfl ?_
    cases hf
    exact w_aret dX35_unitName_55 rfl (Or.inl ⟨_, rfl⟩) (Or.inr ⟨_, rfl⟩) rfl
  replace hf := (if_neg c3).symm.trans hf
  by_cases c4 : p0 = (3 : Int32)
  · replace hf := (if_pos c4).symm.trans hf
    refine w_tableIn 56 dX35_unitName_1 (by rw [c4]; decide) (by rw [c4]; decide) (by rw [c4]; rfl) (by decide) ?_
    refine x_ldcSw (k := 29) dX35_unitName_56 rfl ?_
    cases hf
    exact w_aret dX35_unitName_59 rfl (Or.inl ⟨_, rfl⟩) (Or.inr ⟨_, rfl⟩) rfl
  replace hf := (if_neg c4).symm.trans hf
  by_cases c5 : p0 = (4 : Int32)
  · replace hf := (if_pos c5).symm.trans hf
    refine w_tableIn 60 dX35_unitName_1 (by rw [c5]; decide) (by rw [c5]; decide) (by rw [c5]; rfl) (by decide) ?_
    refine x_ldcSw (k := 30) dX35_unitName_60 rfl ?_
    cases hf
    exact w_aret dX35_unitName_63 rfl (Or.inl ⟨_, rfl⟩) (Or.inr ⟨_, rfl⟩) rfl
  replace hf := (if_neg c5).symm.trans hf
  by_cases c6 : p0 = (5 : Int32)
  · replace hf := (if_pos c6).symm.trans hf
    refine w_tableIn 64 dX35_unitName_1 (by rw [c6]; decide) (by rw [c6]; decide) (by rw [c6]; rfl) (by decide) ?_
    refine x_ldcSw (k := 31) dX35_unitName_64 rfl ?_
    cases hf
    exact w_aret dX35_unitName_67 rfl (Or.inl ⟨_, rfl⟩) (Or.inr ⟨_, rfl⟩) rfl
  replace hf := (if_neg c6).symm.trans hf
  by_cases c7 : p0 = (6 : Int32)
  · replace hf := (if_pos c7).symm.trans hf
    refine w_tableIn 68 dX35_unitName_1 (by rw [c7]; decide) (by rw [c7]; decide) (by rw [c7]; rfl) (by decide) ?_
    refine x_ldcSw (k := 32) dX35_unitName_68 rfl ?_
    cases hf
    exact w_aret dX35_unitName_71 rfl (Or.inl ⟨_, rfl⟩) (Or.inr ⟨_, rfl⟩) rfl
  replace hf := (if_neg c7).symm.trans hf
  refine w_tableOut 72 dX35_unitName_1 (by have n0 := sw_ne c1 (by decide : (0 : Int32).toInt = 0); have n1 := sw_ne c2 (by decide : (1 : Int32).toInt = 1); have n2 := sw_ne c3 (by decide : (2 : Int32).toInt = 2); have n3 := sw_ne c4 (by decide : (3 : Int32).toInt = 3); have n4 := sw_ne c5 (by decide : (4 : Int32).toInt = 4); have n5 := sw_ne c6 (by decide : (5 : Int32).toInt = 5); have n6 := sw_ne c7 (by decide : (6 : Int32).toInt = 6); omega) (by decide) ?_
  refine w_iload_n dX35_unitName_72 rfl rfl ?_
  refine w_bipush dX35_unitName_73 (v := 7) (by decide) ?_
  refine w_icmp_ne 84 dX35_unitName_75 (by decide) (fun c8 => ?_) (fun c8 => ?_)
  · replace hf := (if_pos (show ¬ p0 = (7 : Int32) from c8)).symm.trans hf
    refine x_ldcSw (k := 34) dX35_unitName_84 rfl ?_
    exact (pX35_unitName_b87 hd hf).to trivial
  · replace hf := (if_neg (show ¬ (¬ p0 = (7 : Int32)) from (fun z => z c8))).symm.trans hf
    refine x_ldcSw (k := 33) dX35_unitName_78 rfl ?_
    refine w_goto 87 dX35_unitName_81 (by decide) ?_
    exact (pX35_unitName_b87 hd hf).to trivial
abbrev cX35_unit : ByteArray := prog_37_method_91_code
def yX35_unit : MethodName := ⟨RX35, "unit", "()I"⟩
def YX35_unit : eY := (yX35_unit, cX35_unit, 2, (Option.some FieldType.int), [])
theorem mX35_unit : e_mv YX35_unit RX35 0 := ⟨q5371, qs297, q5372, by decide, by decide +kernel, (e_sig (by decide +kernel))⟩
theorem dX35_unit_0 : decode cX35_unit 0 = .ok (.iconst 0, 1) := dc_3 (by decide +kernel)
theorem dX35_unit_1 : decode cX35_unit 1 = .ok (.istore_n 1, 1) := dc_60 (by decide +kernel)
theorem dX35_unit_2 : decode cX35_unit 2 = .ok (.iload_n 1, 1) := dc_27 (by decide +kernel)
theorem dX35_unit_3 : decode cX35_unit 3 = .ok (.bipush 9, 2) := dc_16 (a := 9) (v := 9) (by decide +kernel)
theorem dX35_unit_5 : decode cX35_unit 5 = .ok (.if_icmp .ge 22, 3) := dc_162 (a := 0) (b := 22) (v := 22) (by decide +kernel)
theorem dX35_unit_8 : decode cX35_unit 8 = .ok (.aload_n 0, 1) := dc_42 (by decide +kernel)
theorem dX35_unit_9 : decode cX35_unit 9 = .ok (.iload_n 1, 1) := dc_27 (by decide +kernel)
theorem dX35_unit_10 : decode cX35_unit 10 = .ok (.invokestatic 703, 3) := dc_184 (a := 2) (b := 191) (n := 703) (by decide +kernel)
theorem dX35_unit_13 : decode cX35_unit 13 = .ok (.invokevirtual 707, 3) := dc_182 (a := 2) (b := 195) (n := 707) (by decide +kernel)
theorem dX35_unit_16 : decode cX35_unit 16 = .ok (.ifCond .eq 5, 3) := dc_153 (a := 0) (b := 5) (v := 5) (by decide +kernel)
theorem dX35_unit_19 : decode cX35_unit 19 = .ok (.iload_n 1, 1) := dc_27 (by decide +kernel)
theorem dX35_unit_20 : decode cX35_unit 20 = .ok (.ireturn, 1) := dc_172 (by decide +kernel)
theorem dX35_unit_21 : decode cX35_unit 21 = .ok (.iinc 1 1, 3) := dc_132 (a := 1) (b := 1) (v := 1) (by decide +kernel)
theorem dX35_unit_24 : decode cX35_unit 24 = .ok (.goto (-22), 3) := dc_167 (a := 255) (b := 234) (v := -22) (by decide +kernel)
theorem dX35_unit_27 : decode cX35_unit 27 = .ok (.iconst (-1), 1) := dc_2 (by decide +kernel)
theorem dX35_unit_28 : decode cX35_unit 28 = .ok (.ireturn, 1) := dc_172 (by decide +kernel)
def fX35_unit_b2 (N : Nat) (sE : Nat → Int32 → eH → Option (Unit × eH)) : Nat → Nat → Int32 → eH → Option (Int32 × eH)
  | 0, _, _, _ => none
  | n + 1, l0, l1, h =>
    if (9 : Int32) ≤ l1 then
      some ((-1 : Int32), h)
    else
      (fX35_unitName l1 h).bind fun q2 =>
      (k_ok 34 q2.2 l0).bind fun _ =>
      (fX35_keyword N sE l0 q2.1 q2.2).bind fun q4 =>
      if q4.1 = 0 then
        fX35_unit_b2 N sE n l0 (l1 + (1 : Int32)) q4.2
      else
        some (l1, q4.2)
theorem pX35_unit_b2 {w : eW} {d : Nat} {dr : Nat} (hd : dr + 7 ≤ d + 1) (hdr : 12 ≤ dr) {N : Nat} {sE : Nat → Int32 → eH → Option (Unit × eH)} (hsE : ∀ a t0 h q, sE a t0 h = some q → wm w dr YX35_expand [.ref a, .int t0] h (e_is (e_rn c_V q))) : ∀ (n : Nat) l0 l1 h q, fX35_unit_b2 N sE n l0 l1 h = some q → wp w (d + 1) YX35_unit 2 [some (.ref l0), some (.int l1)] [] h (e_is (e_rn c_I q)) := by
  intro n
  induction n with
  | zero => intro l0 l1 h q hf; simp [fX35_unit_b2] at hf
  | succ n ih =>
    intro l0 l1 h q hf
    rw [fX35_unit_b2] at hf
    refine w_iload_n dX35_unit_2 rfl rfl ?_
    refine w_bipush dX35_unit_3 (v := 9) (by decide) ?_
    refine w_icmp_ge 27 dX35_unit_5 (by decide) (fun c1 => ?_) (fun c1 => ?_)
    · replace hf := (if_pos (show (9 : Int32) ≤ l1 from c1)).symm.trans hf
      refine w_iconst dX35_unit_27 (v := -1) (by decide) ?_
      cases hf
      exact w_iret dX35_unit_28 rfl rfl rfl
    · replace hf := (if_neg (show ¬ ((9 : Int32) ≤ l1) from c1)).symm.trans hf
      refine w_aload_n dX35_unit_8 rfl rfl ?_
      refine w_iload_n dX35_unit_9 rfl rfl ?_
      refine x_cnA hf (e_stS (Yc := YX35_unitName) (av := [.int l1]) (st := [.ref l0]) dX35_unit_10 q5373 mX35_unitName) mX35_unitName.2.2.1 mX35_unitName.2.2.2.2.1 (Nat.le_of_ble_eq_true rfl) (Nat.le_of_ble_eq_true rfl) (fun q hq => pX35_unitName (by omega) hq) (fun q2 hf => ?_)
      obtain ⟨_, b3, hf⟩ := Option.bind_eq_some_iff.mp hf
      refine x_cnI hf (e_stV (Yc := YX35_keyword) (ci := 34) (av := [.ref q2.1]) (st := []) dX35_unit_13 q5347 mX35_keyword rfl (k_ok_some b3).1 (k_ok_some b3).2) mX35_keyword.2.2.1 mX35_keyword.2.2.2.2.1 (Nat.le_of_ble_eq_true rfl) (Nat.le_of_ble_eq_true rfl) (fun q hq => pX35_keyword (by omega) hdr hsE hq) (fun q4 hf => ?_)
      refine w_if_eq 21 dX35_unit_16 (by decide) (fun c5 => ?_) (fun c5 => ?_)
      · replace hf := (if_pos (show q4.1 = 0 from c5)).symm.trans hf
        refine w_iinc dX35_unit_21 (v := (l1 + (1 : Int32))) rfl rfl (by decide) (ls' := [some (.ref l0), some (.int (l1 + (1 : Int32)))]) rfl ?_
        refine w_goto 2 dX35_unit_24 (by decide) ?_
        exact (ih _ _ _ _ hf).to ⟨rfl, rfl, trivial⟩
      · replace hf := (if_neg (show ¬ (q4.1 = 0) from c5)).symm.trans hf
        refine w_iload_n dX35_unit_19 rfl rfl ?_
        cases hf
        exact w_iret dX35_unit_20 rfl rfl rfl
def fX35_unit (N : Nat) (sE : Nat → Int32 → eH → Option (Unit × eH)) (this : Nat) (h : eH) : Option (Int32 × eH) :=
  fX35_unit_b2 N sE N this (0 : Int32) h
theorem pX35_unit {w : eW} {d : Nat} {dr : Nat} (hd : dr + 7 ≤ d) (hdr : 12 ≤ dr) {N : Nat} {sE : Nat → Int32 → eH → Option (Unit × eH)} (hsE : ∀ a t0 h q, sE a t0 h = some q → wm w dr YX35_expand [.ref a, .int t0] h (e_is (e_rn c_V q))) {this : Nat} {h : eH} {q} (hf : fX35_unit N sE this h = some q) : wm w d YX35_unit [.ref this] h (e_is (e_rn c_I q)) := by
  obtain ⟨d, rfl⟩ : ∃ e, d = e + 1 := ⟨d - 1, by omega⟩
  show wp w (d + 1) YX35_unit 0 [some (.ref this), none] [] h _
  unfold fX35_unit at hf
  refine w_iconst dX35_unit_0 (v := 0) (by decide) ?_
  refine w_istore_n dX35_unit_1 rfl (by decide) (ls' := [some (.ref this), some (.int (0 : Int32))]) rfl ?_
  exact (pX35_unit_b2 hd hdr hsE N _ _ _ _ hf).to ⟨rfl, rfl, trivial⟩
abbrev cX40_parameter : ByteArray := prog_41_method_29_code
def yX40_parameter : MethodName := ⟨RX40, "parameter", "(II)I"⟩
def YX40_parameter : eY := (yX40_parameter, cX40_parameter, 3, (Option.some FieldType.int), [])
theorem mX40_parameter : e_mv YX40_parameter RX40 2 := ⟨q5392, q5393, q5394, by decide, by decide +kernel, (e_sig (by decide +kernel))⟩
theorem dX40_parameter_0 : decode cX40_parameter 0 = .ok (.iload_n 1, 1) := dc_27 (by decide +kernel)
theorem dX40_parameter_1 : decode cX40_parameter 1 = .ok (.aload_n 0, 1) := dc_42 (by decide +kernel)
theorem dX40_parameter_2 : decode cX40_parameter 2 = .ok (.getfield 9, 3) := dc_180 (a := 0) (b := 9) (n := 9) (by decide +kernel)
theorem dX40_parameter_5 : decode cX40_parameter 5 = .ok (.bipush 9, 2) := dc_16 (a := 9) (v := 9) (by decide +kernel)
theorem dX40_parameter_7 : decode cX40_parameter 7 = .ok (.invokestatic 26, 3) := dc_184 (a := 0) (b := 26) (n := 26) (by decide +kernel)
theorem dX40_parameter_10 : decode cX40_parameter 10 = .ok (.if_icmp .le 7, 3) := dc_164 (a := 0) (b := 7) (v := 7) (by decide +kernel)
theorem dX40_parameter_13 : decode cX40_parameter 13 = .ok (.iconst 0, 1) := dc_3 (by decide +kernel)
theorem dX40_parameter_14 : decode cX40_parameter 14 = .ok (.goto 13, 3) := dc_167 (a := 0) (b := 13) (v := 13) (by decide +kernel)
theorem dX40_parameter_17 : decode cX40_parameter 17 = .ok (.aload_n 0, 1) := dc_42 (by decide +kernel)
theorem dX40_parameter_18 : decode cX40_parameter 18 = .ok (.bipush 9, 2) := dc_16 (a := 9) (v := 9) (by decide +kernel)
theorem dX40_parameter_20 : decode cX40_parameter 20 = .ok (.iload_n 1, 1) := dc_27 (by decide +kernel)
theorem dX40_parameter_21 : decode cX40_parameter 21 = .ok (.iconst 1, 1) := dc_4 (by decide +kernel)
theorem dX40_parameter_22 : decode cX40_parameter 22 = .ok (.isub, 1) := dc_100 (by decide +kernel)
theorem dX40_parameter_23 : decode cX40_parameter 23 = .ok (.iload_n 2, 1) := dc_28 (by decide +kernel)
theorem dX40_parameter_24 : decode cX40_parameter 24 = .ok (.invokevirtual 94, 3) := dc_182 (a := 0) (b := 94) (n := 94) (by decide +kernel)
theorem dX40_parameter_27 : decode cX40_parameter 27 = .ok (.ireturn, 1) := dc_172 (by decide +kernel)
def fX40_parameter_b27 (N : Nat) (s0 : Int32) (h : eH) : Option (Int32 × eH) :=
  some (s0, h)
theorem pX40_parameter_b27 {w : eW} {d : Nat} (hd : 5 ≤ d + 1) {N : Nat} {s0 : Int32} {h : eH} {q} (hf : fX40_parameter_b27 N s0 h = some q) : wp w (d + 1) YX40_parameter 27 [none, none, none] [.int s0] h (e_is (e_rn c_I q)) := by
  unfold fX40_parameter_b27 at hf
  cases hf
  exact w_iret dX40_parameter_27 rfl rfl rfl
def fX40_parameter (N : Nat) (this : Nat) (p0 : Int32) (p1 : Int32) (h : eH) : Option (Int32 × eH) :=
  (g_A 42 h this 0).bind fun a1 =>
  (fX40_words a1 (9 : Int32) h).bind fun q3 =>
  if p0 ≤ q3.1 then
    (k_ok 42 q3.2 this).bind fun _ =>
    (fX40_scaled N this (9 : Int32) (p0 - (1 : Int32)) p1 q3.2).bind fun q6 =>
    fX40_parameter_b27 N q6.1 q6.2
  else
    fX40_parameter_b27 N (0 : Int32) q3.2
theorem pX40_parameter {w : eW} {d : Nat} (hd : 5 ≤ d) {N : Nat} {this : Nat} {p0 : Int32} {p1 : Int32} {h : eH} {q} (hf : fX40_parameter N this p0 p1 h = some q) : wm w d YX40_parameter [.ref this, .int p0, .int p1] h (e_is (e_rn c_I q)) := by
  obtain ⟨d, rfl⟩ : ∃ e, d = e + 1 := ⟨d - 1, by omega⟩
  show wp w (d + 1) YX40_parameter 0 [some (.ref this), some (.int p0), some (.int p1)] [] h _
  unfold fX40_parameter at hf
  refine w_iload_n dX40_parameter_0 rfl rfl ?_
  refine w_aload_n dX40_parameter_1 rfl rfl ?_
  obtain ⟨a1, b2, hf⟩ := Option.bind_eq_some_iff.mp hf
  refine GX40_9 b2 dX40_parameter_2 rfl ?_
  refine w_bipush dX40_parameter_5 (v := 9) (by decide) ?_
  refine x_cnI hf (e_stS (Yc := YX40_words) (av := [.ref a1, .int (9 : Int32)]) (st := [.int p0]) dX40_parameter_7 q4919 mX40_words) mX40_words.2.2.1 mX40_words.2.2.2.2.1 (Nat.le_of_ble_eq_true rfl) (Nat.le_of_ble_eq_true rfl) (fun q hq => pX40_words (by omega) hq) (fun q3 hf => ?_)
  refine w_icmp_le 17 dX40_parameter_10 (by decide) (fun c4 => ?_) (fun c4 => ?_)
  · replace hf := (if_pos (show p0 ≤ q3.1 from c4)).symm.trans hf
    refine w_aload_n dX40_parameter_17 rfl rfl ?_
    refine w_bipush dX40_parameter_18 (v := 9) (by decide) ?_
    refine w_iload_n dX40_parameter_20 rfl rfl ?_
    refine w_iconst dX40_parameter_21 (v := 1) (by decide) ?_
    refine w_isub dX40_parameter_22 ?_
    refine w_iload_n dX40_parameter_23 rfl rfl ?_
    obtain ⟨_, b5, hf⟩ := Option.bind_eq_some_iff.mp hf
    refine x_cnI hf (e_stV (Yc := YX40_scaled) (ci := 42) (av := [.int (9 : Int32), .int (p0 - (1 : Int32)), .int p1]) (st := []) dX40_parameter_24 q5395 mX40_scaled rfl (k_ok_some b5).1 (k_ok_some b5).2) mX40_scaled.2.2.1 mX40_scaled.2.2.2.2.1 (Nat.le_of_ble_eq_true rfl) (Nat.le_of_ble_eq_true rfl) (fun q hq => pX40_scaled (by omega) hq) (fun q6 hf => ?_)
    exact (pX40_parameter_b27 hd hf).to trivial
  · replace hf := (if_neg (show ¬ (p0 ≤ q3.1) from c4)).symm.trans hf
    refine w_iconst dX40_parameter_13 (v := 0) (by decide) ?_
    refine w_goto 27 dX40_parameter_14 (by decide) ?_
    exact (pX40_parameter_b27 hd hf).to trivial
abbrev cX35_parameter : ByteArray := prog_37_method_89_code
def yX35_parameter : MethodName := ⟨RX35, "parameter", "(I)I"⟩
def YX35_parameter : eY := (yX35_parameter, cX35_parameter, 3, (Option.some FieldType.int), [])
theorem mX35_parameter : e_mv YX35_parameter RX35 1 := ⟨q5389, qs298, q5390, by decide, by decide +kernel, (e_sig (by decide +kernel))⟩
theorem dX35_parameter_0 : decode cX35_parameter 0 = .ok (.aload_n 0, 1) := dc_42 (by decide +kernel)
theorem dX35_parameter_1 : decode cX35_parameter 1 = .ok (.sipush 3811, 3) := dc_17 (a := 14) (b := 227) (v := 3811) (by decide +kernel)
theorem dX35_parameter_4 : decode cX35_parameter 4 = .ok (.invokevirtual 431, 3) := dc_182 (a := 1) (b := 175) (n := 431) (by decide +kernel)
theorem dX35_parameter_7 : decode cX35_parameter 7 = .ok (.istore_n 2, 1) := dc_61 (by decide +kernel)
theorem dX35_parameter_8 : decode cX35_parameter 8 = .ok (.iload_n 2, 1) := dc_28 (by decide +kernel)
theorem dX35_parameter_9 : decode cX35_parameter 9 = .ok (.ifCond .ge 7, 3) := dc_156 (a := 0) (b := 7) (v := 7) (by decide +kernel)
theorem dX35_parameter_12 : decode cX35_parameter 12 = .ok (.iconst 0, 1) := dc_3 (by decide +kernel)
theorem dX35_parameter_13 : decode cX35_parameter 13 = .ok (.goto 24, 3) := dc_167 (a := 0) (b := 24) (v := 24) (by decide +kernel)
theorem dX35_parameter_16 : decode cX35_parameter 16 = .ok (.aload_n 0, 1) := dc_42 (by decide +kernel)
theorem dX35_parameter_17 : decode cX35_parameter 17 = .ok (.getfield 21, 3) := dc_180 (a := 0) (b := 21) (n := 21) (by decide +kernel)
theorem dX35_parameter_20 : decode cX35_parameter 20 = .ok (.aload_n 0, 1) := dc_42 (by decide +kernel)
theorem dX35_parameter_21 : decode cX35_parameter 21 = .ok (.getfield 121, 3) := dc_180 (a := 0) (b := 121) (n := 121) (by decide +kernel)
theorem dX35_parameter_24 : decode cX35_parameter 24 = .ok (.iload_n 2, 1) := dc_28 (by decide +kernel)
theorem dX35_parameter_25 : decode cX35_parameter 25 = .ok (.iaload, 1) := dc_46 (by decide +kernel)
theorem dX35_parameter_26 : decode cX35_parameter 26 = .ok (.aaload, 1) := dc_50 (by decide +kernel)
theorem dX35_parameter_27 : decode cX35_parameter 27 = .ok (.iload_n 1, 1) := dc_27 (by decide +kernel)
theorem dX35_parameter_28 : decode cX35_parameter 28 = .ok (.aload_n 0, 1) := dc_42 (by decide +kernel)
theorem dX35_parameter_29 : decode cX35_parameter 29 = .ok (.getfield 124, 3) := dc_180 (a := 0) (b := 124) (n := 124) (by decide +kernel)
theorem dX35_parameter_32 : decode cX35_parameter 32 = .ok (.iload_n 2, 1) := dc_28 (by decide +kernel)
theorem dX35_parameter_33 : decode cX35_parameter 33 = .ok (.iaload, 1) := dc_46 (by decide +kernel)
theorem dX35_parameter_34 : decode cX35_parameter 34 = .ok (.invokevirtual 681, 3) := dc_182 (a := 2) (b := 169) (n := 681) (by decide +kernel)
theorem dX35_parameter_37 : decode cX35_parameter 37 = .ok (.ireturn, 1) := dc_172 (by decide +kernel)
def fX35_parameter_b37 (N : Nat) (s0 : Int32) (h : eH) : Option (Int32 × eH) :=
  some (s0, h)
theorem pX35_parameter_b37 {w : eW} {d : Nat} (hd : 6 ≤ d + 1) {N : Nat} {s0 : Int32} {h : eH} {q} (hf : fX35_parameter_b37 N s0 h = some q) : wp w (d + 1) YX35_parameter 37 [none, none, none] [.int s0] h (e_is (e_rn c_I q)) := by
  unfold fX35_parameter_b37 at hf
  cases hf
  exact w_iret dX35_parameter_37 rfl rfl rfl
def fX35_parameter (N : Nat) (this : Nat) (p0 : Int32) (h : eH) : Option (Int32 × eH) :=
  (k_ok 34 h this).bind fun _ =>
  (fX35_now this (3811 : Int32) h).bind fun q2 =>
  if 0 ≤ q2.1 then
    (g_A 34 q2.2 this 4).bind fun a4 =>
    (g_A 34 q2.2 this 49).bind fun a6 =>
    (r_I 100 q2.2 a6 q2.1).bind fun x8 =>
    (r_A 107 q2.2 a4 x8).bind fun a10 =>
    (g_A 34 q2.2 this 50).bind fun a12 =>
    (r_I 100 q2.2 a12 q2.1).bind fun x14 =>
    (k_ok 42 q2.2 a10).bind fun _ =>
    (fX40_parameter N a10 p0 x14 q2.2).bind fun q17 =>
    fX35_parameter_b37 N q17.1 q17.2
  else
    fX35_parameter_b37 N (0 : Int32) q2.2
theorem pX35_parameter {w : eW} {d : Nat} (hd : 6 ≤ d) {N : Nat} {this : Nat} {p0 : Int32} {h : eH} {q} (hf : fX35_parameter N this p0 h = some q) : wm w d YX35_parameter [.ref this, .int p0] h (e_is (e_rn c_I q)) := by
  obtain ⟨d, rfl⟩ : ∃ e, d = e + 1 := ⟨d - 1, by omega⟩
  show wp w (d + 1) YX35_parameter 0 [some (.ref this), some (.int p0), none] [] h _
  unfold fX35_parameter at hf
  refine w_aload_n dX35_parameter_0 rfl rfl ?_
  refine w_sipush dX35_parameter_1 (v := 3811) (by decide) ?_
  obtain ⟨_, b1, hf⟩ := Option.bind_eq_some_iff.mp hf
  refine x_cnI hf (e_stV (Yc := YX35_now) (ci := 34) (av := [.int (3811 : Int32)]) (st := []) dX35_parameter_4 q5097 mX35_now rfl (k_ok_some b1).1 (k_ok_some b1).2) mX35_now.2.2.1 mX35_now.2.2.2.2.1 (Nat.le_of_ble_eq_true rfl) (Nat.le_of_ble_eq_true rfl) (fun q hq => pX35_now (by omega) hq) (fun q2 hf => ?_)
  refine w_istore_n dX35_parameter_7 rfl (by decide) (ls' := [some (.ref this), some (.int p0), some (.int q2.1)]) rfl ?_
  refine w_iload_n dX35_parameter_8 rfl rfl ?_
  refine w_if_ge 16 dX35_parameter_9 (by decide) (fun c3 => ?_) (fun c3 => ?_)
  · replace hf := (if_pos (show 0 ≤ q2.1 from c3)).symm.trans hf
    refine w_aload_n dX35_parameter_16 rfl rfl ?_
    obtain ⟨a4, b5, hf⟩ := Option.bind_eq_some_iff.mp hf
    refine GX35_21 b5 dX35_parameter_17 rfl ?_
    refine w_aload_n dX35_parameter_20 rfl rfl ?_
    obtain ⟨a6, b7, hf⟩ := Option.bind_eq_some_iff.mp hf
    refine GX35_121 b7 dX35_parameter_21 rfl ?_
    refine w_iload_n dX35_parameter_24 rfl rfl ?_
    obtain ⟨x8, b9, hf⟩ := Option.bind_eq_some_iff.mp hf
    refine x_rI b9 dX35_parameter_25 ?_
    obtain ⟨a10, b11, hf⟩ := Option.bind_eq_some_iff.mp hf
    refine x_rA (c := 107) (by decide) b11 dX35_parameter_26 ?_
    refine w_iload_n dX35_parameter_27 rfl rfl ?_
    refine w_aload_n dX35_parameter_28 rfl rfl ?_
    obtain ⟨a12, b13, hf⟩ := Option.bind_eq_some_iff.mp hf
    refine GX35_124 b13 dX35_parameter_29 rfl ?_
    refine w_iload_n dX35_parameter_32 rfl rfl ?_
    obtain ⟨x14, b15, hf⟩ := Option.bind_eq_some_iff.mp hf
    refine x_rI b15 dX35_parameter_33 ?_
    obtain ⟨_, b16, hf⟩ := Option.bind_eq_some_iff.mp hf
    refine x_cnI hf (e_stV (Yc := YX40_parameter) (ci := 42) (av := [.int p0, .int x14]) (st := []) dX35_parameter_34 q5391 mX40_parameter rfl (k_ok_some b16).1 (k_ok_some b16).2) mX40_parameter.2.2.1 mX40_parameter.2.2.2.2.1 (Nat.le_of_ble_eq_true rfl) (Nat.le_of_ble_eq_true rfl) (fun q hq => pX40_parameter (by omega) hq) (fun q17 hf => ?_)
    exact (pX35_parameter_b37 hd hf).to trivial
  · replace hf := (if_neg (show ¬ (0 ≤ q2.1) from c3)).symm.trans hf
    refine w_iconst dX35_parameter_12 (v := 0) (by decide) ?_
    refine w_goto 37 dX35_parameter_13 (by decide) ?_
    exact (pX35_parameter_b37 hd hf).to trivial
abbrev cX35_measured : ByteArray := prog_37_method_92_code
def yX35_measured : MethodName := ⟨RX35, "measured", "(JJ)J"⟩
def YX35_measured : eY := (yX35_measured, cX35_measured, 11, (Option.some FieldType.long), [])
theorem mX35_measured : e_mv YX35_measured RX35 2 := ⟨q5363, qs295, q5364, by decide, by decide +kernel, (e_sig (by decide +kernel))⟩
theorem dX35_measured_0 : decode cX35_measured 0 = .ok (.aload_n 0, 1) := dc_42 (by decide +kernel)
theorem dX35_measured_1 : decode cX35_measured 1 = .ok (.invokevirtual 607, 3) := dc_182 (a := 2) (b := 95) (n := 607) (by decide +kernel)
theorem dX35_measured_4 : decode cX35_measured 4 = .ok (.istore 5, 2) := dc_54 (a := 5) (by decide +kernel)
theorem dX35_measured_6 : decode cX35_measured 6 = .ok (.aload_n 0, 1) := dc_42 (by decide +kernel)
theorem dX35_measured_7 : decode cX35_measured 7 = .ok (.getfield 321, 3) := dc_180 (a := 1) (b := 65) (n := 321) (by decide +kernel)
theorem dX35_measured_10 : decode cX35_measured 10 = .ok (.ifCond .le 5, 3) := dc_158 (a := 0) (b := 5) (v := 5) (by decide +kernel)
theorem dX35_measured_13 : decode cX35_measured 13 = .ok (.lconst 0, 1) := dc_9 (by decide +kernel)
theorem dX35_measured_14 : decode cX35_measured 14 = .ok (.lreturn, 1) := dc_173 (by decide +kernel)
theorem dX35_measured_15 : decode cX35_measured 15 = .ok (.lconst 0, 1) := dc_9 (by decide +kernel)
theorem dX35_measured_16 : decode cX35_measured 16 = .ok (.lstore 6, 2) := dc_55 (a := 6) (by decide +kernel)
theorem dX35_measured_18 : decode cX35_measured 18 = .ok (.lconst 1, 1) := dc_10 (by decide +kernel)
theorem dX35_measured_19 : decode cX35_measured 19 = .ok (.lstore 8, 2) := dc_55 (a := 8) (by decide +kernel)
theorem dX35_measured_21 : decode cX35_measured 21 = .ok (.iconst (-1), 1) := dc_2 (by decide +kernel)
theorem dX35_measured_22 : decode cX35_measured 22 = .ok (.istore 10, 2) := dc_54 (a := 10) (by decide +kernel)
theorem dX35_measured_24 : decode cX35_measured 24 = .ok (.aload_n 0, 1) := dc_42 (by decide +kernel)
theorem dX35_measured_25 : decode cX35_measured 25 = .ok (.iload 5, 2) := dc_21 (a := 5) (by decide +kernel)
theorem dX35_measured_27 : decode cX35_measured 27 = .ok (.invokevirtual 542, 3) := dc_182 (a := 2) (b := 30) (n := 542) (by decide +kernel)
theorem dX35_measured_30 : decode cX35_measured 30 = .ok (.ifCond .ne 12, 3) := dc_154 (a := 0) (b := 12) (v := 12) (by decide +kernel)
theorem dX35_measured_33 : decode cX35_measured 33 = .ok (.aload_n 0, 1) := dc_42 (by decide +kernel)
theorem dX35_measured_34 : decode cX35_measured 34 = .ok (.iload 5, 2) := dc_21 (a := 5) (by decide +kernel)
theorem dX35_measured_36 : decode cX35_measured 36 = .ok (.invokevirtual 545, 3) := dc_182 (a := 2) (b := 33) (n := 545) (by decide +kernel)
theorem dX35_measured_39 : decode cX35_measured 39 = .ok (.ifCond .eq 15, 3) := dc_153 (a := 0) (b := 15) (v := 15) (by decide +kernel)
theorem dX35_measured_42 : decode cX35_measured 42 = .ok (.aload_n 0, 1) := dc_42 (by decide +kernel)
theorem dX35_measured_43 : decode cX35_measured 43 = .ok (.iload 5, 2) := dc_21 (a := 5) (by decide +kernel)
theorem dX35_measured_45 : decode cX35_measured 45 = .ok (.invokevirtual 548, 3) := dc_182 (a := 2) (b := 36) (n := 548) (by decide +kernel)
theorem dX35_measured_48 : decode cX35_measured 48 = .ok (.i2l, 1) := dc_133 (by decide +kernel)
theorem dX35_measured_49 : decode cX35_measured 49 = .ok (.lstore 6, 2) := dc_55 (a := 6) (by decide +kernel)
theorem dX35_measured_51 : decode cX35_measured 51 = .ok (.goto 150, 3) := dc_167 (a := 0) (b := 150) (v := 150) (by decide +kernel)
theorem dX35_measured_54 : decode cX35_measured 54 = .ok (.aload_n 0, 1) := dc_42 (by decide +kernel)
theorem dX35_measured_55 : decode cX35_measured 55 = .ok (.iload 5, 2) := dc_21 (a := 5) (by decide +kernel)
theorem dX35_measured_57 : decode cX35_measured 57 = .ok (.invokevirtual 509, 3) := dc_182 (a := 1) (b := 253) (n := 509) (by decide +kernel)
theorem dX35_measured_60 : decode cX35_measured 60 = .ok (.aload_n 0, 1) := dc_42 (by decide +kernel)
theorem dX35_measured_61 : decode cX35_measured 61 = .ok (.invokevirtual 711, 3) := dc_182 (a := 2) (b := 199) (n := 711) (by decide +kernel)
theorem dX35_measured_64 : decode cX35_measured 64 = .ok (.istore 10, 2) := dc_54 (a := 10) (by decide +kernel)
theorem dX35_measured_66 : decode cX35_measured 66 = .ok (.iload 10, 2) := dc_21 (a := 10) (by decide +kernel)
theorem dX35_measured_68 : decode cX35_measured 68 = .ok (.ifCond .ge 11, 3) := dc_156 (a := 0) (b := 11) (v := 11) (by decide +kernel)
theorem dX35_measured_71 : decode cX35_measured 71 = .ok (.aload_n 0, 1) := dc_42 (by decide +kernel)
theorem dX35_measured_72 : decode cX35_measured 72 = .ok (.bipush 6, 2) := dc_16 (a := 6) (v := 6) (by decide +kernel)
theorem dX35_measured_74 : decode cX35_measured 74 = .ok (.invokevirtual 428, 3) := dc_182 (a := 1) (b := 172) (n := 428) (by decide +kernel)
theorem dX35_measured_77 : decode cX35_measured 77 = .ok (.lconst 0, 1) := dc_9 (by decide +kernel)
theorem dX35_measured_78 : decode cX35_measured 78 = .ok (.lreturn, 1) := dc_173 (by decide +kernel)
theorem dX35_measured_79 : decode cX35_measured 79 = .ok (.iload 10, 2) := dc_21 (a := 10) (by decide +kernel)
theorem dX35_measured_81 : decode cX35_measured 81 = .ok (.ifCond .ne 9, 3) := dc_154 (a := 0) (b := 9) (v := 9) (by decide +kernel)
theorem dX35_measured_84 : decode cX35_measured 84 = .ok (.ldc2_w 714, 3) := dc_20 (a := 2) (b := 202) (n := 714) (by decide +kernel)
theorem dX35_measured_87 : decode cX35_measured 87 = .ok (.goto 57, 3) := dc_167 (a := 0) (b := 57) (v := 57) (by decide +kernel)
theorem dX35_measured_90 : decode cX35_measured 90 = .ok (.iload 10, 2) := dc_21 (a := 10) (by decide +kernel)
theorem dX35_measured_92 : decode cX35_measured 92 = .ok (.iconst 1, 1) := dc_4 (by decide +kernel)
theorem dX35_measured_93 : decode cX35_measured 93 = .ok (.if_icmp .ne 9, 3) := dc_160 (a := 0) (b := 9) (v := 9) (by decide +kernel)
theorem dX35_measured_96 : decode cX35_measured 96 = .ok (.ldc2_w 716, 3) := dc_20 (a := 2) (b := 204) (n := 716) (by decide +kernel)
theorem dX35_measured_99 : decode cX35_measured 99 = .ok (.goto 45, 3) := dc_167 (a := 0) (b := 45) (v := 45) (by decide +kernel)
theorem dX35_measured_102 : decode cX35_measured 102 = .ok (.iload 10, 2) := dc_21 (a := 10) (by decide +kernel)
theorem dX35_measured_104 : decode cX35_measured 104 = .ok (.bipush 6, 2) := dc_16 (a := 6) (v := 6) (by decide +kernel)
theorem dX35_measured_106 : decode cX35_measured 106 = .ok (.if_icmp .ge 9, 3) := dc_162 (a := 0) (b := 9) (v := 9) (by decide +kernel)
theorem dX35_measured_109 : decode cX35_measured 109 = .ok (.ldc2_w 718, 3) := dc_20 (a := 2) (b := 206) (n := 718) (by decide +kernel)
theorem dX35_measured_112 : decode cX35_measured 112 = .ok (.goto 32, 3) := dc_167 (a := 0) (b := 32) (v := 32) (by decide +kernel)
theorem dX35_measured_115 : decode cX35_measured 115 = .ok (.iload 10, 2) := dc_21 (a := 10) (by decide +kernel)
theorem dX35_measured_117 : decode cX35_measured 117 = .ok (.bipush 6, 2) := dc_16 (a := 6) (v := 6) (by decide +kernel)
theorem dX35_measured_119 : decode cX35_measured 119 = .ok (.if_icmp .ne 7, 3) := dc_160 (a := 0) (b := 7) (v := 7) (by decide +kernel)
theorem dX35_measured_122 : decode cX35_measured 122 = .ok (.lconst 1, 1) := dc_10 (by decide +kernel)
theorem dX35_measured_123 : decode cX35_measured 123 = .ok (.goto 21, 3) := dc_167 (a := 0) (b := 21) (v := 21) (by decide +kernel)
theorem dX35_measured_126 : decode cX35_measured 126 = .ok (.aload_n 0, 1) := dc_42 (by decide +kernel)
theorem dX35_measured_127 : decode cX35_measured 127 = .ok (.iload 10, 2) := dc_21 (a := 10) (by decide +kernel)
theorem dX35_measured_129 : decode cX35_measured 129 = .ok (.bipush 7, 2) := dc_16 (a := 7) (v := 7) (by decide +kernel)
theorem dX35_measured_131 : decode cX35_measured 131 = .ok (.if_icmp .ne 8, 3) := dc_160 (a := 0) (b := 8) (v := 8) (by decide +kernel)
theorem dX35_measured_134 : decode cX35_measured 134 = .ok (.bipush 6, 2) := dc_16 (a := 6) (v := 6) (by decide +kernel)
theorem dX35_measured_136 : decode cX35_measured 136 = .ok (.goto 4, 3) := dc_167 (a := 0) (b := 4) (v := 4) (by decide +kernel)
theorem dX35_measured_139 : decode cX35_measured 139 = .ok (.iconst 5, 1) := dc_8 (by decide +kernel)
theorem dX35_measured_140 : decode cX35_measured 140 = .ok (.invokevirtual 720, 3) := dc_182 (a := 2) (b := 208) (n := 720) (by decide +kernel)
theorem dX35_measured_143 : decode cX35_measured 143 = .ok (.i2l, 1) := dc_133 (by decide +kernel)
theorem dX35_measured_144 : decode cX35_measured 144 = .ok (.lstore 6, 2) := dc_55 (a := 6) (by decide +kernel)
theorem dX35_measured_146 : decode cX35_measured 146 = .ok (.iload 10, 2) := dc_21 (a := 10) (by decide +kernel)
theorem dX35_measured_148 : decode cX35_measured 148 = .ok (.iconst 2, 1) := dc_5 (by decide +kernel)
theorem dX35_measured_149 : decode cX35_measured 149 = .ok (.if_icmp .ne 9, 3) := dc_160 (a := 0) (b := 9) (v := 9) (by decide +kernel)
theorem dX35_measured_152 : decode cX35_measured 152 = .ok (.ldc2_w 722, 3) := dc_20 (a := 2) (b := 210) (n := 722) (by decide +kernel)
theorem dX35_measured_155 : decode cX35_measured 155 = .ok (.goto 40, 3) := dc_167 (a := 0) (b := 40) (v := 40) (by decide +kernel)
theorem dX35_measured_158 : decode cX35_measured 158 = .ok (.iload 10, 2) := dc_21 (a := 10) (by decide +kernel)
theorem dX35_measured_160 : decode cX35_measured 160 = .ok (.iconst 3, 1) := dc_6 (by decide +kernel)
theorem dX35_measured_161 : decode cX35_measured 161 = .ok (.if_icmp .ne 9, 3) := dc_160 (a := 0) (b := 9) (v := 9) (by decide +kernel)
theorem dX35_measured_164 : decode cX35_measured 164 = .ok (.ldc2_w 724, 3) := dc_20 (a := 2) (b := 212) (n := 724) (by decide +kernel)
theorem dX35_measured_167 : decode cX35_measured 167 = .ok (.goto 28, 3) := dc_167 (a := 0) (b := 28) (v := 28) (by decide +kernel)
theorem dX35_measured_170 : decode cX35_measured 170 = .ok (.iload 10, 2) := dc_21 (a := 10) (by decide +kernel)
theorem dX35_measured_172 : decode cX35_measured 172 = .ok (.iconst 4, 1) := dc_7 (by decide +kernel)
theorem dX35_measured_173 : decode cX35_measured 173 = .ok (.if_icmp .ne 9, 3) := dc_160 (a := 0) (b := 9) (v := 9) (by decide +kernel)
theorem dX35_measured_176 : decode cX35_measured 176 = .ok (.ldc2_w 726, 3) := dc_20 (a := 2) (b := 214) (n := 726) (by decide +kernel)
theorem dX35_measured_179 : decode cX35_measured 179 = .ok (.goto 16, 3) := dc_167 (a := 0) (b := 16) (v := 16) (by decide +kernel)
theorem dX35_measured_182 : decode cX35_measured 182 = .ok (.iload 10, 2) := dc_21 (a := 10) (by decide +kernel)
theorem dX35_measured_184 : decode cX35_measured 184 = .ok (.iconst 5, 1) := dc_8 (by decide +kernel)
theorem dX35_measured_185 : decode cX35_measured 185 = .ok (.if_icmp .ne 9, 3) := dc_160 (a := 0) (b := 9) (v := 9) (by decide +kernel)
theorem dX35_measured_188 : decode cX35_measured 188 = .ok (.ldc2_w 728, 3) := dc_20 (a := 2) (b := 216) (n := 728) (by decide +kernel)
theorem dX35_measured_191 : decode cX35_measured 191 = .ok (.goto 4, 3) := dc_167 (a := 0) (b := 4) (v := 4) (by decide +kernel)
theorem dX35_measured_194 : decode cX35_measured 194 = .ok (.lconst 1, 1) := dc_10 (by decide +kernel)
theorem dX35_measured_195 : decode cX35_measured 195 = .ok (.lstore 8, 2) := dc_55 (a := 8) (by decide +kernel)
theorem dX35_measured_197 : decode cX35_measured 197 = .ok (.aload_n 0, 1) := dc_42 (by decide +kernel)
theorem dX35_measured_198 : decode cX35_measured 198 = .ok (.invokevirtual 648, 3) := dc_182 (a := 2) (b := 136) (n := 648) (by decide +kernel)
theorem dX35_measured_201 : decode cX35_measured 201 = .ok (.aload_n 0, 1) := dc_42 (by decide +kernel)
theorem dX35_measured_202 : decode cX35_measured 202 = .ok (.getfield 321, 3) := dc_180 (a := 1) (b := 65) (n := 321) (by decide +kernel)
theorem dX35_measured_205 : decode cX35_measured 205 = .ok (.ifCond .ne 26, 3) := dc_154 (a := 0) (b := 26) (v := 26) (by decide +kernel)
theorem dX35_measured_208 : decode cX35_measured 208 = .ok (.iload 10, 2) := dc_21 (a := 10) (by decide +kernel)
theorem dX35_measured_210 : decode cX35_measured 210 = .ok (.bipush 6, 2) := dc_16 (a := 6) (v := 6) (by decide +kernel)
theorem dX35_measured_212 : decode cX35_measured 212 = .ok (.if_icmp .eq 19, 3) := dc_159 (a := 0) (b := 19) (v := 19) (by decide +kernel)
theorem dX35_measured_215 : decode cX35_measured 215 = .ok (.lload_n 1, 1) := dc_31 (by decide +kernel)
theorem dX35_measured_216 : decode cX35_measured 216 = .ok (.ldc2_w 730, 3) := dc_20 (a := 2) (b := 218) (n := 730) (by decide +kernel)
theorem dX35_measured_219 : decode cX35_measured 219 = .ok (.lload_n 3, 1) := dc_33 (by decide +kernel)
theorem dX35_measured_220 : decode cX35_measured 220 = .ok (.lmul, 1) := dc_105 (by decide +kernel)
theorem dX35_measured_221 : decode cX35_measured 221 = .ok (.lcmp, 1) := dc_148 (by decide +kernel)
theorem dX35_measured_222 : decode cX35_measured 222 = .ok (.ifCond .lt 9, 3) := dc_155 (a := 0) (b := 9) (v := 9) (by decide +kernel)
theorem dX35_measured_225 : decode cX35_measured 225 = .ok (.aload_n 0, 1) := dc_42 (by decide +kernel)
theorem dX35_measured_226 : decode cX35_measured 226 = .ok (.bipush 7, 2) := dc_16 (a := 7) (v := 7) (by decide +kernel)
theorem dX35_measured_228 : decode cX35_measured 228 = .ok (.invokevirtual 428, 3) := dc_182 (a := 1) (b := 172) (n := 428) (by decide +kernel)
theorem dX35_measured_231 : decode cX35_measured 231 = .ok (.aload_n 0, 1) := dc_42 (by decide +kernel)
theorem dX35_measured_232 : decode cX35_measured 232 = .ok (.getfield 321, 3) := dc_180 (a := 1) (b := 65) (n := 321) (by decide +kernel)
theorem dX35_measured_235 : decode cX35_measured 235 = .ok (.ifCond .le 7, 3) := dc_158 (a := 0) (b := 7) (v := 7) (by decide +kernel)
theorem dX35_measured_238 : decode cX35_measured 238 = .ok (.lconst 0, 1) := dc_9 (by decide +kernel)
theorem dX35_measured_239 : decode cX35_measured 239 = .ok (.goto 12, 3) := dc_167 (a := 0) (b := 12) (v := 12) (by decide +kernel)
theorem dX35_measured_242 : decode cX35_measured 242 = .ok (.lload_n 1, 1) := dc_31 (by decide +kernel)
theorem dX35_measured_243 : decode cX35_measured 243 = .ok (.lload_n 3, 1) := dc_33 (by decide +kernel)
theorem dX35_measured_244 : decode cX35_measured 244 = .ok (.lload 6, 2) := dc_22 (a := 6) (by decide +kernel)
theorem dX35_measured_246 : decode cX35_measured 246 = .ok (.lload 8, 2) := dc_22 (a := 8) (by decide +kernel)
theorem dX35_measured_248 : decode cX35_measured 248 = .ok (.invokestatic 732, 3) := dc_184 (a := 2) (b := 220) (n := 732) (by decide +kernel)
theorem dX35_measured_251 : decode cX35_measured 251 = .ok (.lreturn, 1) := dc_173 (by decide +kernel)
def fX35_measured_b251 (N : Nat) (sE : Nat → Int32 → eH → Option (Unit × eH)) (sN : Nat → eH → Option (Int32 × eH)) (s0 : Int64) (h : eH) : Option (Int64 × eH) :=
  some (s0, h)
theorem pX35_measured_b251 {w : eW} {d : Nat} {dr : Nat} (hd : dr + 8 ≤ d + 1) (hdr : 12 ≤ dr) {N : Nat} {sE : Nat → Int32 → eH → Option (Unit × eH)} {sN : Nat → eH → Option (Int32 × eH)} (hsE : ∀ a t0 h q, sE a t0 h = some q → wm w dr YX35_expand [.ref a, .int t0] h (e_is (e_rn c_V q))) (hsN : ∀ a h q, sN a h = some q → wm w dr YX35_number [.ref a] h (e_is (e_rn c_I q))) {s0 : Int64} {h : eH} {q} (hf : fX35_measured_b251 N sE sN s0 h = some q) : wp w (d + 1) YX35_measured 251 [none, none, none, none, none, none, none, none, none, none, none] [.long s0] h (e_is (e_rn c_J q)) := by
  unfold fX35_measured_b251 at hf
  cases hf
  exact w_lret dX35_measured_251 rfl rfl
def fX35_measured_b231 (N : Nat) (sE : Nat → Int32 → eH → Option (Unit × eH)) (sN : Nat → eH → Option (Int32 × eH)) (l0 : Nat) (l1 : Int64) (l3 : Int64) (l6 : Int64) (l8 : Int64) (h : eH) : Option (Int64 × eH) :=
  (g_I 34 h l0 46).bind fun x1 =>
  if x1 ≤ 0 then
    (fX35_times l1 l3 l6 l8 h).bind fun q4 =>
    fX35_measured_b251 N sE sN q4.1 q4.2
  else
    fX35_measured_b251 N sE sN (0 : Int64) h
theorem pX35_measured_b231 {w : eW} {d : Nat} {dr : Nat} (hd : dr + 8 ≤ d + 1) (hdr : 12 ≤ dr) {N : Nat} {sE : Nat → Int32 → eH → Option (Unit × eH)} {sN : Nat → eH → Option (Int32 × eH)} (hsE : ∀ a t0 h q, sE a t0 h = some q → wm w dr YX35_expand [.ref a, .int t0] h (e_is (e_rn c_V q))) (hsN : ∀ a h q, sN a h = some q → wm w dr YX35_number [.ref a] h (e_is (e_rn c_I q))) {l0 : Nat} {l1 : Int64} {l3 : Int64} {l6 : Int64} {l8 : Int64} {h : eH} {q} (hf : fX35_measured_b231 N sE sN l0 l1 l3 l6 l8 h = some q) : wp w (d + 1) YX35_measured 231 [some (.ref l0), some (.long l1), none, some (.long l3), none, none, some (.long l6), none, some (.long l8), none, none] [] h (e_is (e_rn c_J q)) := by
  unfold fX35_measured_b231 at hf
  refine w_aload_n dX35_measured_231 rfl rfl ?_
  obtain ⟨x1, b2, hf⟩ := Option.bind_eq_some_iff.mp hf
  refine GX35_321 b2 dX35_measured_232 rfl ?_
  refine w_if_le 242 dX35_measured_235 (by decide) (fun c3 => ?_) (fun c3 => ?_)
  · replace hf := (if_pos (show x1 ≤ 0 from c3)).symm.trans hf
    refine w_lload_n dX35_measured_242 rfl rfl ?_
    refine w_lload_n dX35_measured_243 rfl rfl ?_
    refine w_lload dX35_measured_244 rfl ?_
    refine w_lload dX35_measured_246 rfl ?_
    refine x_cnJ hf (e_stS (Yc := YX35_times) (av := [.long l1, .long l3, .long l6, .long l8]) (st := []) dX35_measured_248 q5358 mX35_times) mX35_times.2.2.1 mX35_times.2.2.2.2.1 (Nat.le_of_ble_eq_true rfl) (Nat.le_of_ble_eq_true rfl) (fun q hq => pX35_times (by omega) hq) (fun q4 hf => ?_)
    exact (pX35_measured_b251 hd hdr hsE hsN hf).to trivial
  · replace hf := (if_neg (show ¬ (x1 ≤ 0) from c3)).symm.trans hf
    refine w_lconst dX35_measured_238 (v := 0) (by decide) ?_
    refine w_goto 251 dX35_measured_239 (by decide) ?_
    exact (pX35_measured_b251 hd hdr hsE hsN hf).to trivial
def fX35_measured_b201 (N : Nat) (sE : Nat → Int32 → eH → Option (Unit × eH)) (sN : Nat → eH → Option (Int32 × eH)) (l0 : Nat) (l1 : Int64) (l3 : Int64) (l6 : Int64) (l8 : Int64) (l10 : Int32) (h : eH) : Option (Int64 × eH) :=
  (g_I 34 h l0 46).bind fun x1 =>
  if ¬ x1 = 0 then
    fX35_measured_b231 N sE sN l0 l1 l3 l6 l8 h
  else
    if l10 = (6 : Int32) then
      fX35_measured_b231 N sE sN l0 l1 l3 l6 l8 h
    else
      if (lg_cmp l1 ((32768 : Int64) * l3)) < 0 then
        fX35_measured_b231 N sE sN l0 l1 l3 l6 l8 h
      else
        (k_ok 34 h l0).bind fun _ =>
        (fX35_fail l0 (7 : Int32) h).bind fun q7 =>
        fX35_measured_b231 N sE sN l0 l1 l3 l6 l8 q7.2
theorem pX35_measured_b201 {w : eW} {d : Nat} {dr : Nat} (hd : dr + 8 ≤ d + 1) (hdr : 12 ≤ dr) {N : Nat} {sE : Nat → Int32 → eH → Option (Unit × eH)} {sN : Nat → eH → Option (Int32 × eH)} (hsE : ∀ a t0 h q, sE a t0 h = some q → wm w dr YX35_expand [.ref a, .int t0] h (e_is (e_rn c_V q))) (hsN : ∀ a h q, sN a h = some q → wm w dr YX35_number [.ref a] h (e_is (e_rn c_I q))) {l0 : Nat} {l1 : Int64} {l3 : Int64} {l6 : Int64} {l8 : Int64} {l10 : Int32} {h : eH} {q} (hf : fX35_measured_b201 N sE sN l0 l1 l3 l6 l8 l10 h = some q) : wp w (d + 1) YX35_measured 201 [some (.ref l0), some (.long l1), none, some (.long l3), none, none, some (.long l6), none, some (.long l8), none, some (.int l10)] [] h (e_is (e_rn c_J q)) := by
  unfold fX35_measured_b201 at hf
  refine w_aload_n dX35_measured_201 rfl rfl ?_
  obtain ⟨x1, b2, hf⟩ := Option.bind_eq_some_iff.mp hf
  refine GX35_321 b2 dX35_measured_202 rfl ?_
  refine w_if_ne 231 dX35_measured_205 (by decide) (fun c3 => ?_) (fun c3 => ?_)
  · replace hf := (if_pos (show ¬ x1 = 0 from c3)).symm.trans hf
    exact (pX35_measured_b231 hd hdr hsE hsN hf).to ⟨rfl, rfl, rfl, rfl, rfl, trivial⟩
  · replace hf := (if_neg (show ¬ (¬ x1 = 0) from (fun z => z c3))).symm.trans hf
    refine w_iload dX35_measured_208 rfl ?_
    refine w_bipush dX35_measured_210 (v := 6) (by decide) ?_
    refine w_icmp_eq 231 dX35_measured_212 (by decide) (fun c4 => ?_) (fun c4 => ?_)
    · replace hf := (if_pos (show l10 = (6 : Int32) from c4)).symm.trans hf
      exact (pX35_measured_b231 hd hdr hsE hsN hf).to ⟨rfl, rfl, rfl, rfl, rfl, trivial⟩
    · replace hf := (if_neg (show ¬ (l10 = (6 : Int32)) from c4)).symm.trans hf
      refine w_lload_n dX35_measured_215 rfl rfl ?_
      refine w_ldc2 dX35_measured_216 q5407 ?_
      refine w_lload_n dX35_measured_219 rfl rfl ?_
      refine w_lmul dX35_measured_220 ?_
      refine w_lcmp dX35_measured_221 ?_
      refine w_if_lt 231 dX35_measured_222 (by decide) (fun c5 => ?_) (fun c5 => ?_)
      · replace hf := (if_pos (show (lg_cmp l1 ((32768 : Int64) * l3)) < 0 from c5)).symm.trans hf
        exact (pX35_measured_b231 hd hdr hsE hsN hf).to ⟨rfl, rfl, rfl, rfl, rfl, trivial⟩
      · replace hf := (if_neg (show ¬ ((lg_cmp l1 ((32768 : Int64) * l3)) < 0) from c5)).symm.trans hf
        refine w_aload_n dX35_measured_225 rfl rfl ?_
        refine w_bipush dX35_measured_226 (v := 7) (by decide) ?_
        obtain ⟨_, b6, hf⟩ := Option.bind_eq_some_iff.mp hf
        refine x_cnV hf (e_stV (Yc := YX35_fail) (ci := 34) (av := [.int (7 : Int32)]) (st := []) dX35_measured_228 q5109 mX35_fail rfl (k_ok_some b6).1 (k_ok_some b6).2) mX35_fail.2.2.1 mX35_fail.2.2.2.2.1 (Nat.le_of_ble_eq_true rfl) (Nat.le_of_ble_eq_true rfl) (fun q hq => pX35_fail (by omega) hq) (fun q7 hf => ?_)
        exact (pX35_measured_b231 hd hdr hsE hsN hf).to ⟨rfl, rfl, rfl, rfl, rfl, trivial⟩
def fX35_measured_b42 (N : Nat) (sE : Nat → Int32 → eH → Option (Unit × eH)) (sN : Nat → eH → Option (Int32 × eH)) (l0 : Nat) (l1 : Int64) (l3 : Int64) (l5 : Int32) (l8 : Int64) (l10 : Int32) (h : eH) : Option (Int64 × eH) :=
  (k_ok 34 h l0).bind fun _ =>
  (fX35_lengthOf sN l0 l5 h).bind fun q2 =>
  fX35_measured_b201 N sE sN l0 l1 l3 (q2.1).toInt64 l8 l10 q2.2
theorem pX35_measured_b42 {w : eW} {d : Nat} {dr : Nat} (hd : dr + 8 ≤ d + 1) (hdr : 12 ≤ dr) {N : Nat} {sE : Nat → Int32 → eH → Option (Unit × eH)} {sN : Nat → eH → Option (Int32 × eH)} (hsE : ∀ a t0 h q, sE a t0 h = some q → wm w dr YX35_expand [.ref a, .int t0] h (e_is (e_rn c_V q))) (hsN : ∀ a h q, sN a h = some q → wm w dr YX35_number [.ref a] h (e_is (e_rn c_I q))) {l0 : Nat} {l1 : Int64} {l3 : Int64} {l5 : Int32} {l8 : Int64} {l10 : Int32} {h : eH} {q} (hf : fX35_measured_b42 N sE sN l0 l1 l3 l5 l8 l10 h = some q) : wp w (d + 1) YX35_measured 42 [some (.ref l0), some (.long l1), none, some (.long l3), none, some (.int l5), none, none, some (.long l8), none, some (.int l10)] [] h (e_is (e_rn c_J q)) := by
  unfold fX35_measured_b42 at hf
  refine w_aload_n dX35_measured_42 rfl rfl ?_
  refine w_iload dX35_measured_43 rfl ?_
  obtain ⟨_, b1, hf⟩ := Option.bind_eq_some_iff.mp hf
  refine x_cnI hf (e_stV (Yc := YX35_lengthOf) (ci := 34) (av := [.int l5]) (st := []) dX35_measured_45 q5296 mX35_lengthOf rfl (k_ok_some b1).1 (k_ok_some b1).2) mX35_lengthOf.2.2.1 mX35_lengthOf.2.2.2.2.1 (Nat.le_of_ble_eq_true rfl) (Nat.le_of_ble_eq_true rfl) (fun q hq => pX35_lengthOf (by omega) hdr hsN hq) (fun q2 hf => ?_)
  refine w_i2l dX35_measured_48 ?_
  refine w_lstore dX35_measured_49 (by decide) (ls' := [some (.ref l0), some (.long l1), none, some (.long l3), none, some (.int l5), some (.long (q2.1).toInt64), none, some (.long l8), none, some (.int l10)]) rfl ?_
  refine w_goto 201 dX35_measured_51 (by decide) ?_
  exact (pX35_measured_b201 hd hdr hsE hsN hf).to ⟨rfl, rfl, rfl, rfl, rfl, rfl, trivial⟩
def fX35_measured_b195 (N : Nat) (sE : Nat → Int32 → eH → Option (Unit × eH)) (sN : Nat → eH → Option (Int32 × eH)) (l0 : Nat) (l1 : Int64) (l3 : Int64) (l6 : Int64) (l10 : Int32) (s0 : Int64) (h : eH) : Option (Int64 × eH) :=
  (k_ok 34 h l0).bind fun _ =>
  (fX35_dropSpace N sE l0 h).bind fun q2 =>
  fX35_measured_b201 N sE sN l0 l1 l3 l6 s0 l10 q2.2
theorem pX35_measured_b195 {w : eW} {d : Nat} {dr : Nat} (hd : dr + 8 ≤ d + 1) (hdr : 12 ≤ dr) {N : Nat} {sE : Nat → Int32 → eH → Option (Unit × eH)} {sN : Nat → eH → Option (Int32 × eH)} (hsE : ∀ a t0 h q, sE a t0 h = some q → wm w dr YX35_expand [.ref a, .int t0] h (e_is (e_rn c_V q))) (hsN : ∀ a h q, sN a h = some q → wm w dr YX35_number [.ref a] h (e_is (e_rn c_I q))) {l0 : Nat} {l1 : Int64} {l3 : Int64} {l6 : Int64} {l10 : Int32} {s0 : Int64} {h : eH} {q} (hf : fX35_measured_b195 N sE sN l0 l1 l3 l6 l10 s0 h = some q) : wp w (d + 1) YX35_measured 195 [some (.ref l0), some (.long l1), none, some (.long l3), none, none, some (.long l6), none, none, none, some (.int l10)] [.long s0] h (e_is (e_rn c_J q)) := by
  unfold fX35_measured_b195 at hf
  refine w_lstore dX35_measured_195 (by decide) (ls' := [some (.ref l0), some (.long l1), none, some (.long l3), none, none, some (.long l6), none, some (.long s0), none, some (.int l10)]) rfl ?_
  refine w_aload_n dX35_measured_197 rfl rfl ?_
  obtain ⟨_, b1, hf⟩ := Option.bind_eq_some_iff.mp hf
  refine x_cnV hf (e_stV (Yc := YX35_dropSpace) (ci := 34) (av := []) (st := []) dX35_measured_198 q5246 mX35_dropSpace rfl (k_ok_some b1).1 (k_ok_some b1).2) mX35_dropSpace.2.2.1 mX35_dropSpace.2.2.2.2.1 (Nat.le_of_ble_eq_true rfl) (Nat.le_of_ble_eq_true rfl) (fun q hq => pX35_dropSpace (by omega) hdr hsE hq) (fun q2 hf => ?_)
  exact (pX35_measured_b201 hd hdr hsE hsN hf).to ⟨rfl, rfl, rfl, rfl, rfl, rfl, trivial⟩
def fX35_measured_b144 (N : Nat) (sE : Nat → Int32 → eH → Option (Unit × eH)) (sN : Nat → eH → Option (Int32 × eH)) (l0 : Nat) (l1 : Int64) (l3 : Int64) (l10 : Int32) (s0 : Int64) (h : eH) : Option (Int64 × eH) :=
  if ¬ l10 = (2 : Int32) then
    if ¬ l10 = (3 : Int32) then
      if ¬ l10 = (4 : Int32) then
        if ¬ l10 = (5 : Int32) then
          fX35_measured_b195 N sE sN l0 l1 l3 s0 l10 (1 : Int64) h
        else
          fX35_measured_b195 N sE sN l0 l1 l3 s0 l10 (2540 : Int64) h
      else
        fX35_measured_b195 N sE sN l0 l1 l3 s0 l10 (254 : Int64) h
    else
      fX35_measured_b195 N sE sN l0 l1 l3 s0 l10 (7200 : Int64) h
  else
    fX35_measured_b195 N sE sN l0 l1 l3 s0 l10 (100 : Int64) h
theorem pX35_measured_b144 {w : eW} {d : Nat} {dr : Nat} (hd : dr + 8 ≤ d + 1) (hdr : 12 ≤ dr) {N : Nat} {sE : Nat → Int32 → eH → Option (Unit × eH)} {sN : Nat → eH → Option (Int32 × eH)} (hsE : ∀ a t0 h q, sE a t0 h = some q → wm w dr YX35_expand [.ref a, .int t0] h (e_is (e_rn c_V q))) (hsN : ∀ a h q, sN a h = some q → wm w dr YX35_number [.ref a] h (e_is (e_rn c_I q))) {l0 : Nat} {l1 : Int64} {l3 : Int64} {l10 : Int32} {s0 : Int64} {h : eH} {q} (hf : fX35_measured_b144 N sE sN l0 l1 l3 l10 s0 h = some q) : wp w (d + 1) YX35_measured 144 [some (.ref l0), some (.long l1), none, some (.long l3), none, none, none, none, none, none, some (.int l10)] [.long s0] h (e_is (e_rn c_J q)) := by
  unfold fX35_measured_b144 at hf
  refine w_lstore dX35_measured_144 (by decide) (ls' := [some (.ref l0), some (.long l1), none, some (.long l3), none, none, some (.long s0), none, none, none, some (.int l10)]) rfl ?_
  refine w_iload dX35_measured_146 rfl ?_
  refine w_iconst dX35_measured_148 (v := 2) (by decide) ?_
  refine w_icmp_ne 158 dX35_measured_149 (by decide) (fun c1 => ?_) (fun c1 => ?_)
  · replace hf := (if_pos (show ¬ l10 = (2 : Int32) from c1)).symm.trans hf
    refine w_iload dX35_measured_158 rfl ?_
    refine w_iconst dX35_measured_160 (v := 3) (by decide) ?_
    refine w_icmp_ne 170 dX35_measured_161 (by decide) (fun c2 => ?_) (fun c2 => ?_)
    · replace hf := (if_pos (show ¬ l10 = (3 : Int32) from c2)).symm.trans hf
      refine w_iload dX35_measured_170 rfl ?_
      refine w_iconst dX35_measured_172 (v := 4) (by decide) ?_
      refine w_icmp_ne 182 dX35_measured_173 (by decide) (fun c3 => ?_) (fun c3 => ?_)
      · replace hf := (if_pos (show ¬ l10 = (4 : Int32) from c3)).symm.trans hf
        refine w_iload dX35_measured_182 rfl ?_
        refine w_iconst dX35_measured_184 (v := 5) (by decide) ?_
        refine w_icmp_ne 194 dX35_measured_185 (by decide) (fun c4 => ?_) (fun c4 => ?_)
        · replace hf := (if_pos (show ¬ l10 = (5 : Int32) from c4)).symm.trans hf
          refine w_lconst dX35_measured_194 (v := 1) (by decide) ?_
          exact (pX35_measured_b195 hd hdr hsE hsN hf).to ⟨rfl, rfl, rfl, rfl, rfl, trivial⟩
        · replace hf := (if_neg (show ¬ (¬ l10 = (5 : Int32)) from (fun z => z c4))).symm.trans hf
          refine w_ldc2 dX35_measured_188 q5406 ?_
          refine w_goto 195 dX35_measured_191 (by decide) ?_
          exact (pX35_measured_b195 hd hdr hsE hsN hf).to ⟨rfl, rfl, rfl, rfl, rfl, trivial⟩
      · replace hf := (if_neg (show ¬ (¬ l10 = (4 : Int32)) from (fun z => z c3))).symm.trans hf
        refine w_ldc2 dX35_measured_176 q5405 ?_
        refine w_goto 195 dX35_measured_179 (by decide) ?_
        exact (pX35_measured_b195 hd hdr hsE hsN hf).to ⟨rfl, rfl, rfl, rfl, rfl, trivial⟩
    · replace hf := (if_neg (show ¬ (¬ l10 = (3 : Int32)) from (fun z => z c2))).symm.trans hf
      refine w_ldc2 dX35_measured_164 q5404 ?_
      refine w_goto 195 dX35_measured_167 (by decide) ?_
      exact (pX35_measured_b195 hd hdr hsE hsN hf).to ⟨rfl, rfl, rfl, rfl, rfl, trivial⟩
  · replace hf := (if_neg (show ¬ (¬ l10 = (2 : Int32)) from (fun z => z c1))).symm.trans hf
    refine w_ldc2 dX35_measured_152 q5403 ?_
    refine w_goto 195 dX35_measured_155 (by decide) ?_
    exact (pX35_measured_b195 hd hdr hsE hsN hf).to ⟨rfl, rfl, rfl, rfl, rfl, trivial⟩
def fX35_measured_b140 (N : Nat) (sE : Nat → Int32 → eH → Option (Unit × eH)) (sN : Nat → eH → Option (Int32 × eH)) (l0 : Nat) (l1 : Int64) (l3 : Int64) (l10 : Int32) (s0 : Nat) (s1 : Int32) (h : eH) : Option (Int64 × eH) :=
  (k_ok 34 h s0).bind fun _ =>
  (fX35_parameter N s0 s1 h).bind fun q2 =>
  fX35_measured_b144 N sE sN l0 l1 l3 l10 (q2.1).toInt64 q2.2
theorem pX35_measured_b140 {w : eW} {d : Nat} {dr : Nat} (hd : dr + 8 ≤ d + 1) (hdr : 12 ≤ dr) {N : Nat} {sE : Nat → Int32 → eH → Option (Unit × eH)} {sN : Nat → eH → Option (Int32 × eH)} (hsE : ∀ a t0 h q, sE a t0 h = some q → wm w dr YX35_expand [.ref a, .int t0] h (e_is (e_rn c_V q))) (hsN : ∀ a h q, sN a h = some q → wm w dr YX35_number [.ref a] h (e_is (e_rn c_I q))) {l0 : Nat} {l1 : Int64} {l3 : Int64} {l10 : Int32} {s0 : Nat} {s1 : Int32} {h : eH} {q} (hf : fX35_measured_b140 N sE sN l0 l1 l3 l10 s0 s1 h = some q) : wp w (d + 1) YX35_measured 140 [some (.ref l0), some (.long l1), none, some (.long l3), none, none, none, none, none, none, some (.int l10)] [.int s1, .ref s0] h (e_is (e_rn c_J q)) := by
  unfold fX35_measured_b140 at hf
  obtain ⟨_, b1, hf⟩ := Option.bind_eq_some_iff.mp hf
  refine x_cnI hf (e_stV (Yc := YX35_parameter) (ci := 34) (av := [.int s1]) (st := []) dX35_measured_140 q5387 mX35_parameter rfl (k_ok_some b1).1 (k_ok_some b1).2) mX35_parameter.2.2.1 mX35_parameter.2.2.2.2.1 (Nat.le_of_ble_eq_true rfl) (Nat.le_of_ble_eq_true rfl) (fun q hq => pX35_parameter (by omega) hq) (fun q2 hf => ?_)
  refine w_i2l dX35_measured_143 ?_
  exact (pX35_measured_b144 hd hdr hsE hsN hf).to ⟨rfl, rfl, rfl, rfl, trivial⟩
def fX35_measured (N : Nat) (sE : Nat → Int32 → eH → Option (Unit × eH)) (sN : Nat → eH → Option (Int32 × eH)) (this : Nat) (p0 : Int64) (p1 : Int64) (h : eH) : Option (Int64 × eH) :=
  (k_ok 34 h this).bind fun _ =>
  (fX35_needExpandedNoSpace N sE this h).bind fun q2 =>
  (g_I 34 q2.2 this 46).bind fun x3 =>
  if x3 ≤ 0 then
    (k_ok 34 q2.2 this).bind fun _ =>
    (fX35_hasLength this q2.1 q2.2).bind fun q7 =>
    if ¬ q7.1 = 0 then
      fX35_measured_b42 N sE sN this p0 p1 q2.1 (1 : Int64) (-1 : Int32) q7.2
    else
      (k_ok 34 q7.2 this).bind fun _ =>
      (fX35_hasGlue this q2.1 q7.2).bind fun q10 =>
      if q10.1 = 0 then
        (k_ok 34 q10.2 this).bind fun _ =>
        (fX35_put this q2.1 q10.2).bind fun q13 =>
        (k_ok 34 q13.2 this).bind fun _ =>
        (fX35_unit N sE this q13.2).bind fun q15 =>
        if 0 ≤ q15.1 then
          if ¬ q15.1 = 0 then
            if ¬ q15.1 = (1 : Int32) then
              if (6 : Int32) ≤ q15.1 then
                if ¬ q15.1 = (6 : Int32) then
                  if ¬ q15.1 = (7 : Int32) then
                    fX35_measured_b140 N sE sN this p0 p1 q15.1 this (5 : Int32) q15.2
                  else
                    fX35_measured_b140 N sE sN this p0 p1 q15.1 this (6 : Int32) q15.2
                else
                  fX35_measured_b144 N sE sN this p0 p1 q15.1 (1 : Int64) q15.2
              else
                fX35_measured_b144 N sE sN this p0 p1 q15.1 (473628672 : Int64) q15.2
            else
              fX35_measured_b144 N sE sN this p0 p1 q15.1 (786432 : Int64) q15.2
          else
            fX35_measured_b144 N sE sN this p0 p1 q15.1 (65536 : Int64) q15.2
        else
          (k_ok 34 q15.2 this).bind fun _ =>
          (fX35_fail this (6 : Int32) q15.2).bind fun q23 =>
          some ((0 : Int64), q23.2)
      else
        fX35_measured_b42 N sE sN this p0 p1 q2.1 (1 : Int64) (-1 : Int32) q10.2
  else
    some ((0 : Int64), q2.2)
theorem pX35_measured {w : eW} {d : Nat} {dr : Nat} (hd : dr + 8 ≤ d) (hdr : 12 ≤ dr) {N : Nat} {sE : Nat → Int32 → eH → Option (Unit × eH)} {sN : Nat → eH → Option (Int32 × eH)} (hsE : ∀ a t0 h q, sE a t0 h = some q → wm w dr YX35_expand [.ref a, .int t0] h (e_is (e_rn c_V q))) (hsN : ∀ a h q, sN a h = some q → wm w dr YX35_number [.ref a] h (e_is (e_rn c_I q))) {this : Nat} {p0 : Int64} {p1 : Int64} {h : eH} {q} (hf : fX35_measured N sE sN this p0 p1 h = some q) : wm w d YX35_measured [.ref this, .long p0, .long p1] h (e_is (e_rn c_J q)) := by
  obtain ⟨d, rfl⟩ : ∃ e, d = e + 1 := ⟨d - 1, by omega⟩
  show wp w (d + 1) YX35_measured 0 [some (.ref this), some (.long p0), none, some (.long p1), none, none, none, none, none, none, none] [] h _
  unfold fX35_measured at hf
  refine w_aload_n dX35_measured_0 rfl rfl ?_
  obtain ⟨_, b1, hf⟩ := Option.bind_eq_some_iff.mp hf
  refine x_cnI hf (e_stV (Yc := YX35_needExpandedNoSpace) (ci := 34) (av := []) (st := []) dX35_measured_1 q5365 mX35_needExpandedNoSpace rfl (k_ok_some b1).1 (k_ok_some b1).2) mX35_needExpandedNoSpace.2.2.1 mX35_needExpandedNoSpace.2.2.2.2.1 (Nat.le_of_ble_eq_true rfl) (Nat.le_of_ble_eq_true rfl) (fun q hq => pX35_needExpandedNoSpace (by omega) hdr hsE hq) (fun q2 hf => ?_)
  refine w_istore dX35_measured_4 (by decide) (ls' := [some (.ref this), some (.long p0), none, some (.long p1), none, some (.int q2.1), none, none, none, none, none]) rfl ?_
  refine w_aload_n dX35_measured_6 rfl rfl ?_
  obtain ⟨x3, b4, hf⟩ := Option.bind_eq_some_iff.mp hf
  refine GX35_321 b4 dX35_measured_7 rfl ?_
  refine w_if_le 15 dX35_measured_10 (by decide) (fun c5 => ?_) (fun c5 => ?_)
  · replace hf := (if_pos (show x3 ≤ 0 from c5)).symm.trans hf
    refine w_lconst dX35_measured_15 (v := 0) (by decide) ?_
    refine w_lstore dX35_measured_16 (by decide) (ls' := [some (.ref this), some (.long p0), none, some (.long p1), none, some (.int q2.1), some (.long (0 : Int64)), none, none, none, none]) rfl ?_
    refine w_lconst dX35_measured_18 (v := 1) (by decide) ?_
    refine w_lstore dX35_measured_19 (by decide) (ls' := [some (.ref this), some (.long p0), none, some (.long p1), none, some (.int q2.1), some (.long (0 : Int64)), none, some (.long (1 : Int64)), none, none]) rfl ?_
    refine w_iconst dX35_measured_21 (v := -1) (by decide) ?_
    refine w_istore dX35_measured_22 (by decide) (ls' := [some (.ref this), some (.long p0), none, some (.long p1), none, some (.int q2.1), some (.long (0 : Int64)), none, some (.long (1 : Int64)), none, some (.int (-1 : Int32))]) rfl ?_
    refine w_aload_n dX35_measured_24 rfl rfl ?_
    refine w_iload dX35_measured_25 rfl ?_
    obtain ⟨_, b6, hf⟩ := Option.bind_eq_some_iff.mp hf
    refine x_cnI hf (e_stV (Yc := YX35_hasLength) (ci := 34) (av := [.int q2.1]) (st := []) dX35_measured_27 q5279 mX35_hasLength rfl (k_ok_some b6).1 (k_ok_some b6).2) mX35_hasLength.2.2.1 mX35_hasLength.2.2.2.2.1 (Nat.le_of_ble_eq_true rfl) (Nat.le_of_ble_eq_true rfl) (fun q hq => pX35_hasLength (by omega) hq) (fun q7 hf => ?_)
    refine w_if_ne 42 dX35_measured_30 (by decide) (fun c8 => ?_) (fun c8 => ?_)
    · replace hf := (if_pos (show ¬ q7.1 = 0 from c8)).symm.trans hf
      exact (pX35_measured_b42 hd hdr hsE hsN hf).to ⟨rfl, rfl, rfl, rfl, rfl, rfl, trivial⟩
    · replace hf := (if_neg (show ¬ (¬ q7.1 = 0) from (fun z => z c8))).symm.trans hf
      refine w_aload_n dX35_measured_33 rfl rfl ?_
      refine w_iload dX35_measured_34 rfl ?_
      obtain ⟨_, b9, hf⟩ := Option.bind_eq_some_iff.mp hf
      refine x_cnI hf (e_stV (Yc := YX35_hasGlue) (ci := 34) (av := [.int q2.1]) (st := []) dX35_measured_36 q5289 mX35_hasGlue rfl (k_ok_some b9).1 (k_ok_some b9).2) mX35_hasGlue.2.2.1 mX35_hasGlue.2.2.2.2.1 (Nat.le_of_ble_eq_true rfl) (Nat.le_of_ble_eq_true rfl) (fun q hq => pX35_hasGlue (by omega) hq) (fun q10 hf => ?_)
      refine w_if_eq 54 dX35_measured_39 (by decide) (fun c11 => ?_) (fun c11 => ?_)
      · replace hf := (if_pos (show q10.1 = 0 from c11)).symm.trans hf
        refine w_aload_n dX35_measured_54 rfl rfl ?_
        refine w_iload dX35_measured_55 rfl ?_
        obtain ⟨_, b12, hf⟩ := Option.bind_eq_some_iff.mp hf
        refine x_cnV hf (e_stV (Yc := YX35_put) (ci := 34) (av := [.int q2.1]) (st := []) dX35_measured_57 q5181 mX35_put rfl (k_ok_some b12).1 (k_ok_some b12).2) mX35_put.2.2.1 mX35_put.2.2.2.2.1 (Nat.le_of_ble_eq_true rfl) (Nat.le_of_ble_eq_true rfl) (fun q hq => pX35_put (by omega) hq) (fun q13 hf => ?_)
        refine w_aload_n dX35_measured_60 rfl rfl ?_
        obtain ⟨_, b14, hf⟩ := Option.bind_eq_some_iff.mp hf
        refine x_cnI hf (e_stV (Yc := YX35_unit) (ci := 34) (av := []) (st := []) dX35_measured_61 q5369 mX35_unit rfl (k_ok_some b14).1 (k_ok_some b14).2) mX35_unit.2.2.1 mX35_unit.2.2.2.2.1 (Nat.le_of_ble_eq_true rfl) (Nat.le_of_ble_eq_true rfl) (fun q hq => pX35_unit (by omega) hdr hsE hq) (fun q15 hf => ?_)
        refine w_istore dX35_measured_64 (by decide) (ls' := [some (.ref this), some (.long p0), none, some (.long p1), none, some (.int q2.1), some (.long (0 : Int64)), none, some (.long (1 : Int64)), none, some (.int q15.1)]) rfl ?_
        refine w_iload dX35_measured_66 rfl ?_
        refine w_if_ge 79 dX35_measured_68 (by decide) (fun c16 => ?_) (fun c16 => ?_)
        · replace hf := (if_pos (show 0 ≤ q15.1 from c16)).symm.trans hf
          refine w_iload dX35_measured_79 rfl ?_
          refine w_if_ne 90 dX35_measured_81 (by decide) (fun c17 => ?_) (fun c17 => ?_)
          · replace hf := (if_pos (show ¬ q15.1 = 0 from c17)).symm.trans hf
            refine w_iload dX35_measured_90 rfl ?_
            refine w_iconst dX35_measured_92 (v := 1) (by decide) ?_
            refine w_icmp_ne 102 dX35_measured_93 (by decide) (fun c18 => ?_) (fun c18 => ?_)
            · replace hf := (if_pos (show ¬ q15.1 = (1 : Int32) from c18)).symm.trans hf
              refine w_iload dX35_measured_102 rfl ?_
              refine w_bipush dX35_measured_104 (v := 6) (by decide) ?_
              refine w_icmp_ge 115 dX35_measured_106 (by decide) (fun c19 => ?_) (fun c19 => ?_)
              · replace hf := (if_pos (show (6 : Int32) ≤ q15.1 from c19)).symm.trans hf
                refine w_iload dX35_measured_115 rfl ?_
                refine w_bipush dX35_measured_117 (v := 6) (by decide) ?_
                refine w_icmp_ne 126 dX35_measured_119 (by decide) (fun c20 => ?_) (fun c20 => ?_)
                · replace hf := (if_pos (show ¬ q15.1 = (6 : Int32) from c20)).symm.trans hf
                  refine w_aload_n dX35_measured_126 rfl rfl ?_
                  refine w_iload dX35_measured_127 rfl ?_
                  refine w_bipush dX35_measured_129 (v := 7) (by decide) ?_
                  refine w_icmp_ne 139 dX35_measured_131 (by decide) (fun c21 => ?_) (fun c21 => ?_)
                  · replace hf := (if_pos (show ¬ q15.1 = (7 : Int32) from c21)).symm.trans hf
                    refine w_iconst dX35_measured_139 (v := 5) (by decide) ?_
                    exact (pX35_measured_b140 hd hdr hsE hsN hf).to ⟨rfl, rfl, rfl, rfl, trivial⟩
                  · replace hf := (if_neg (show ¬ (¬ q15.1 = (7 : Int32)) from (fun z => z c21))).symm.trans hf
                    refine w_bipush dX35_measured_134 (v := 6) (by decide) ?_
                    refine w_goto 140 dX35_measured_136 (by decide) ?_
                    exact (pX35_measured_b140 hd hdr hsE hsN hf).to ⟨rfl, rfl, rfl, rfl, trivial⟩
                · replace hf := (if_neg (show ¬ (¬ q15.1 = (6 : Int32)) from (fun z => z c20))).symm.trans hf
                  refine w_lconst dX35_measured_122 (v := 1) (by decide) ?_
                  refine w_goto 144 dX35_measured_123 (by decide) ?_
                  exact (pX35_measured_b144 hd hdr hsE hsN hf).to ⟨rfl, rfl, rfl, rfl, trivial⟩
              · replace hf := (if_neg (show ¬ ((6 : Int32) ≤ q15.1) from c19)).symm.trans hf
                refine w_ldc2 dX35_measured_109 q5386 ?_
                refine w_goto 144 dX35_measured_112 (by decide) ?_
                exact (pX35_measured_b144 hd hdr hsE hsN hf).to ⟨rfl, rfl, rfl, rfl, trivial⟩
            · replace hf := (if_neg (show ¬ (¬ q15.1 = (1 : Int32)) from (fun z => z c18))).symm.trans hf
              refine w_ldc2 dX35_measured_96 q5385 ?_
              refine w_goto 144 dX35_measured_99 (by decide) ?_
              exact (pX35_measured_b144 hd hdr hsE hsN hf).to ⟨rfl, rfl, rfl, rfl, trivial⟩
          · replace hf := (if_neg (show ¬ (¬ q15.1 = 0) from (fun z => z c17))).symm.trans hf
            refine w_ldc2 dX35_measured_84 q5357 ?_
            refine w_goto 144 dX35_measured_87 (by decide) ?_
            exact (pX35_measured_b144 hd hdr hsE hsN hf).to ⟨rfl, rfl, rfl, rfl, trivial⟩
        · replace hf := (if_neg (show ¬ (0 ≤ q15.1) from c16)).symm.trans hf
          refine w_aload_n dX35_measured_71 rfl rfl ?_
          refine w_bipush dX35_measured_72 (v := 6) (by decide) ?_
          obtain ⟨_, b22, hf⟩ := Option.bind_eq_some_iff.mp hf
          refine x_cnV hf (e_stV (Yc := YX35_fail) (ci := 34) (av := [.int (6 : Int32)]) (st := []) dX35_measured_74 q5109 mX35_fail rfl (k_ok_some b22).1 (k_ok_some b22).2) mX35_fail.2.2.1 mX35_fail.2.2.2.2.1 (Nat.le_of_ble_eq_true rfl) (Nat.le_of_ble_eq_true rfl) (fun q hq => pX35_fail (by omega) hq) (fun q23 hf => ?_)
          refine w_lconst dX35_measured_77 (v := 0) (by decide) ?_
          cases hf
          exact w_lret dX35_measured_78 rfl rfl
      · replace hf := (if_neg (show ¬ (q10.1 = 0) from c11)).symm.trans hf
        exact (pX35_measured_b42 hd hdr hsE hsN hf).to ⟨rfl, rfl, rfl, rfl, rfl, rfl, trivial⟩
  · replace hf := (if_neg (show ¬ (x3 ≤ 0) from c5)).symm.trans hf
    refine w_lconst dX35_measured_13 (v := 0) (by decide) ?_
    cases hf
    exact w_lret dX35_measured_14 rfl rfl
abbrev cX35_sized : ByteArray := prog_37_method_94_code
def yX35_sized : MethodName := ⟨RX35, "sized", "(J)I"⟩
def YX35_sized : eY := (yX35_sized, cX35_sized, 3, (Option.some FieldType.int), [])
theorem mX35_sized : e_mv YX35_sized RX35 1 := ⟨q5410, qs300, q5411, by decide, by decide +kernel, (e_sig (by decide +kernel))⟩
theorem dX35_sized_0 : decode cX35_sized 0 = .ok (.aload_n 0, 1) := dc_42 (by decide +kernel)
theorem dX35_sized_1 : decode cX35_sized 1 = .ok (.getfield 321, 3) := dc_180 (a := 1) (b := 65) (n := 321) (by decide +kernel)
theorem dX35_sized_4 : decode cX35_sized 4 = .ok (.ifCond .ne 16, 3) := dc_154 (a := 0) (b := 16) (v := 16) (by decide +kernel)
theorem dX35_sized_7 : decode cX35_sized 7 = .ok (.lload_n 1, 1) := dc_31 (by decide +kernel)
theorem dX35_sized_8 : decode cX35_sized 8 = .ok (.invokestatic 740, 3) := dc_184 (a := 2) (b := 228) (n := 740) (by decide +kernel)
theorem dX35_sized_11 : decode cX35_sized 11 = .ok (.ifCond .ne 9, 3) := dc_154 (a := 0) (b := 9) (v := 9) (by decide +kernel)
theorem dX35_sized_14 : decode cX35_sized 14 = .ok (.aload_n 0, 1) := dc_42 (by decide +kernel)
theorem dX35_sized_15 : decode cX35_sized 15 = .ok (.bipush 7, 2) := dc_16 (a := 7) (v := 7) (by decide +kernel)
theorem dX35_sized_17 : decode cX35_sized 17 = .ok (.invokevirtual 428, 3) := dc_182 (a := 1) (b := 172) (n := 428) (by decide +kernel)
theorem dX35_sized_20 : decode cX35_sized 20 = .ok (.aload_n 0, 1) := dc_42 (by decide +kernel)
theorem dX35_sized_21 : decode cX35_sized 21 = .ok (.getfield 321, 3) := dc_180 (a := 1) (b := 65) (n := 321) (by decide +kernel)
theorem dX35_sized_24 : decode cX35_sized 24 = .ok (.ifCond .le 7, 3) := dc_158 (a := 0) (b := 7) (v := 7) (by decide +kernel)
theorem dX35_sized_27 : decode cX35_sized 27 = .ok (.iconst 0, 1) := dc_3 (by decide +kernel)
theorem dX35_sized_28 : decode cX35_sized 28 = .ok (.goto 5, 3) := dc_167 (a := 0) (b := 5) (v := 5) (by decide +kernel)
theorem dX35_sized_31 : decode cX35_sized 31 = .ok (.lload_n 1, 1) := dc_31 (by decide +kernel)
theorem dX35_sized_32 : decode cX35_sized 32 = .ok (.l2i, 1) := dc_136 (by decide +kernel)
theorem dX35_sized_33 : decode cX35_sized 33 = .ok (.ireturn, 1) := dc_172 (by decide +kernel)
def fX35_sized_b33 (s0 : Int32) (h : eH) : Option (Int32 × eH) :=
  some (s0, h)
theorem pX35_sized_b33 {w : eW} {d : Nat} (hd : 1 ≤ d + 1) {s0 : Int32} {h : eH} {q} (hf : fX35_sized_b33 s0 h = some q) : wp w (d + 1) YX35_sized 33 [none, none, none] [.int s0] h (e_is (e_rn c_I q)) := by
  unfold fX35_sized_b33 at hf
  cases hf
  exact w_iret dX35_sized_33 rfl rfl rfl
def fX35_sized_b20 (l0 : Nat) (l1 : Int64) (h : eH) : Option (Int32 × eH) :=
  (g_I 34 h l0 46).bind fun x1 =>
  if x1 ≤ 0 then
    fX35_sized_b33 (l1).toInt32 h
  else
    fX35_sized_b33 (0 : Int32) h
theorem pX35_sized_b20 {w : eW} {d : Nat} (hd : 1 ≤ d + 1) {l0 : Nat} {l1 : Int64} {h : eH} {q} (hf : fX35_sized_b20 l0 l1 h = some q) : wp w (d + 1) YX35_sized 20 [some (.ref l0), some (.long l1), none] [] h (e_is (e_rn c_I q)) := by
  unfold fX35_sized_b20 at hf
  refine w_aload_n dX35_sized_20 rfl rfl ?_
  obtain ⟨x1, b2, hf⟩ := Option.bind_eq_some_iff.mp hf
  refine GX35_321 b2 dX35_sized_21 rfl ?_
  refine w_if_le 31 dX35_sized_24 (by decide) (fun c3 => ?_) (fun c3 => ?_)
  · replace hf := (if_pos (show x1 ≤ 0 from c3)).symm.trans hf
    refine w_lload_n dX35_sized_31 rfl rfl ?_
    refine w_l2i dX35_sized_32 ?_
    exact (pX35_sized_b33 hd hf).to trivial
  · replace hf := (if_neg (show ¬ (x1 ≤ 0) from c3)).symm.trans hf
    refine w_iconst dX35_sized_27 (v := 0) (by decide) ?_
    refine w_goto 33 dX35_sized_28 (by decide) ?_
    exact (pX35_sized_b33 hd hf).to trivial
def fX35_sized (this : Nat) (p0 : Int64) (h : eH) : Option (Int32 × eH) :=
  (g_I 34 h this 46).bind fun x1 =>
  if ¬ x1 = 0 then
    fX35_sized_b20 this p0 h
  else
    (fX35_isSize p0 h).bind fun q4 =>
    if ¬ q4.1 = 0 then
      fX35_sized_b20 this p0 q4.2
    else
      (k_ok 34 q4.2 this).bind fun _ =>
      (fX35_fail this (7 : Int32) q4.2).bind fun q7 =>
      fX35_sized_b20 this p0 q7.2
theorem pX35_sized {w : eW} {d : Nat} (hd : 1 ≤ d) {this : Nat} {p0 : Int64} {h : eH} {q} (hf : fX35_sized this p0 h = some q) : wm w d YX35_sized [.ref this, .long p0] h (e_is (e_rn c_I q)) := by
  obtain ⟨d, rfl⟩ : ∃ e, d = e + 1 := ⟨d - 1, by omega⟩
  show wp w (d + 1) YX35_sized 0 [some (.ref this), some (.long p0), none] [] h _
  unfold fX35_sized at hf
  refine w_aload_n dX35_sized_0 rfl rfl ?_
  obtain ⟨x1, b2, hf⟩ := Option.bind_eq_some_iff.mp hf
  refine GX35_321 b2 dX35_sized_1 rfl ?_
  refine w_if_ne 20 dX35_sized_4 (by decide) (fun c3 => ?_) (fun c3 => ?_)
  · replace hf := (if_pos (show ¬ x1 = 0 from c3)).symm.trans hf
    exact (pX35_sized_b20 hd hf).to ⟨rfl, rfl, trivial⟩
  · replace hf := (if_neg (show ¬ (¬ x1 = 0) from (fun z => z c3))).symm.trans hf
    refine w_lload_n dX35_sized_7 rfl rfl ?_
    refine x_cnI hf (e_stS (Yc := YX35_isSize) (av := [.long p0]) (st := []) dX35_sized_8 q5412 mX35_isSize) mX35_isSize.2.2.1 mX35_isSize.2.2.2.2.1 (Nat.le_of_ble_eq_true rfl) (Nat.le_of_ble_eq_true rfl) (fun q hq => pX35_isSize (by omega) hq) (fun q4 hf => ?_)
    refine w_if_ne 20 dX35_sized_11 (by decide) (fun c5 => ?_) (fun c5 => ?_)
    · replace hf := (if_pos (show ¬ q4.1 = 0 from c5)).symm.trans hf
      exact (pX35_sized_b20 hd hf).to ⟨rfl, rfl, trivial⟩
    · replace hf := (if_neg (show ¬ (¬ q4.1 = 0) from (fun z => z c5))).symm.trans hf
      refine w_aload_n dX35_sized_14 rfl rfl ?_
      refine w_bipush dX35_sized_15 (v := 7) (by decide) ?_
      obtain ⟨_, b6, hf⟩ := Option.bind_eq_some_iff.mp hf
      refine x_cnV hf (e_stV (Yc := YX35_fail) (ci := 34) (av := [.int (7 : Int32)]) (st := []) dX35_sized_17 q5109 mX35_fail rfl (k_ok_some b6).1 (k_ok_some b6).2) mX35_fail.2.2.1 mX35_fail.2.2.2.2.1 (Nat.le_of_ble_eq_true rfl) (Nat.le_of_ble_eq_true rfl) (fun q hq => pX35_fail (by omega) hq) (fun q7 hf => ?_)
      exact (pX35_sized_b20 hd hf).to ⟨rfl, rfl, trivial⟩
abbrev cX35_sizeFrom : ByteArray := prog_37_method_95_code
def yX35_sizeFrom : MethodName := ⟨RX35, "sizeFrom", "(IZZ)I"⟩
def YX35_sizeFrom : eY := (yX35_sizeFrom, cX35_sizeFrom, 11, (Option.some FieldType.int), [])
theorem mX35_sizeFrom : e_mv YX35_sizeFrom RX35 3 := ⟨q5339, qs291, q5340, by decide, by decide +kernel, (e_sig (by decide +kernel))⟩
theorem dX35_sizeFrom_0 : decode cX35_sizeFrom 0 = .ok (.iconst 0, 1) := dc_3 (by decide +kernel)
theorem dX35_sizeFrom_1 : decode cX35_sizeFrom 1 = .ok (.istore 4, 2) := dc_54 (a := 4) (by decide +kernel)
theorem dX35_sizeFrom_3 : decode cX35_sizeFrom 3 = .ok (.lconst 0, 1) := dc_9 (by decide +kernel)
theorem dX35_sizeFrom_4 : decode cX35_sizeFrom 4 = .ok (.lstore 5, 2) := dc_55 (a := 5) (by decide +kernel)
theorem dX35_sizeFrom_6 : decode cX35_sizeFrom 6 = .ok (.aload_n 0, 1) := dc_42 (by decide +kernel)
theorem dX35_sizeFrom_7 : decode cX35_sizeFrom 7 = .ok (.getfield 321, 3) := dc_180 (a := 1) (b := 65) (n := 321) (by decide +kernel)
theorem dX35_sizeFrom_10 : decode cX35_sizeFrom 10 = .ok (.ifCond .ne 30, 3) := dc_154 (a := 0) (b := 30) (v := 30) (by decide +kernel)
theorem dX35_sizeFrom_13 : decode cX35_sizeFrom 13 = .ok (.aload_n 0, 1) := dc_42 (by decide +kernel)
theorem dX35_sizeFrom_14 : decode cX35_sizeFrom 14 = .ok (.iload_n 1, 1) := dc_27 (by decide +kernel)
theorem dX35_sizeFrom_15 : decode cX35_sizeFrom 15 = .ok (.invokevirtual 542, 3) := dc_182 (a := 2) (b := 30) (n := 542) (by decide +kernel)
theorem dX35_sizeFrom_18 : decode cX35_sizeFrom 18 = .ok (.ifCond .ne 11, 3) := dc_154 (a := 0) (b := 11) (v := 11) (by decide +kernel)
theorem dX35_sizeFrom_21 : decode cX35_sizeFrom 21 = .ok (.aload_n 0, 1) := dc_42 (by decide +kernel)
theorem dX35_sizeFrom_22 : decode cX35_sizeFrom 22 = .ok (.iload_n 1, 1) := dc_27 (by decide +kernel)
theorem dX35_sizeFrom_23 : decode cX35_sizeFrom 23 = .ok (.invokevirtual 545, 3) := dc_182 (a := 2) (b := 33) (n := 545) (by decide +kernel)
theorem dX35_sizeFrom_26 : decode cX35_sizeFrom 26 = .ok (.ifCond .eq 14, 3) := dc_153 (a := 0) (b := 14) (v := 14) (by decide +kernel)
theorem dX35_sizeFrom_29 : decode cX35_sizeFrom 29 = .ok (.aload_n 0, 1) := dc_42 (by decide +kernel)
theorem dX35_sizeFrom_30 : decode cX35_sizeFrom 30 = .ok (.iload_n 1, 1) := dc_27 (by decide +kernel)
theorem dX35_sizeFrom_31 : decode cX35_sizeFrom 31 = .ok (.invokevirtual 548, 3) := dc_182 (a := 2) (b := 36) (n := 548) (by decide +kernel)
theorem dX35_sizeFrom_34 : decode cX35_sizeFrom 34 = .ok (.i2l, 1) := dc_133 (by decide +kernel)
theorem dX35_sizeFrom_35 : decode cX35_sizeFrom 35 = .ok (.lstore 5, 2) := dc_55 (a := 5) (by decide +kernel)
theorem dX35_sizeFrom_37 : decode cX35_sizeFrom 37 = .ok (.goto 153, 3) := dc_167 (a := 0) (b := 153) (v := 153) (by decide +kernel)
theorem dX35_sizeFrom_40 : decode cX35_sizeFrom 40 = .ok (.aload_n 0, 1) := dc_42 (by decide +kernel)
theorem dX35_sizeFrom_41 : decode cX35_sizeFrom 41 = .ok (.getfield 321, 3) := dc_180 (a := 1) (b := 65) (n := 321) (by decide +kernel)
theorem dX35_sizeFrom_44 : decode cX35_sizeFrom 44 = .ok (.ifCond .ne 146, 3) := dc_154 (a := 0) (b := 146) (v := 146) (by decide +kernel)
theorem dX35_sizeFrom_47 : decode cX35_sizeFrom 47 = .ok (.aload_n 0, 1) := dc_42 (by decide +kernel)
theorem dX35_sizeFrom_48 : decode cX35_sizeFrom 48 = .ok (.iload_n 1, 1) := dc_27 (by decide +kernel)
theorem dX35_sizeFrom_49 : decode cX35_sizeFrom 49 = .ok (.invokevirtual 744, 3) := dc_182 (a := 2) (b := 232) (n := 744) (by decide +kernel)
theorem dX35_sizeFrom_52 : decode cX35_sizeFrom 52 = .ok (.aload_n 0, 1) := dc_42 (by decide +kernel)
theorem dX35_sizeFrom_53 : decode cX35_sizeFrom 53 = .ok (.getfield 674, 3) := dc_180 (a := 2) (b := 162) (n := 674) (by decide +kernel)
theorem dX35_sizeFrom_56 : decode cX35_sizeFrom 56 = .ok (.lstore 7, 2) := dc_55 (a := 7) (by decide +kernel)
theorem dX35_sizeFrom_58 : decode cX35_sizeFrom 58 = .ok (.aload_n 0, 1) := dc_42 (by decide +kernel)
theorem dX35_sizeFrom_59 : decode cX35_sizeFrom 59 = .ok (.getfield 678, 3) := dc_180 (a := 2) (b := 166) (n := 678) (by decide +kernel)
theorem dX35_sizeFrom_62 : decode cX35_sizeFrom 62 = .ok (.lstore 9, 2) := dc_55 (a := 9) (by decide +kernel)
theorem dX35_sizeFrom_64 : decode cX35_sizeFrom 64 = .ok (.aload_n 0, 1) := dc_42 (by decide +kernel)
theorem dX35_sizeFrom_65 : decode cX35_sizeFrom 65 = .ok (.getfield 321, 3) := dc_180 (a := 1) (b := 65) (n := 321) (by decide +kernel)
theorem dX35_sizeFrom_68 : decode cX35_sizeFrom 68 = .ok (.ifCond .ne 105, 3) := dc_154 (a := 0) (b := 105) (v := 105) (by decide +kernel)
theorem dX35_sizeFrom_71 : decode cX35_sizeFrom 71 = .ok (.iload_n 3, 1) := dc_29 (by decide +kernel)
theorem dX35_sizeFrom_72 : decode cX35_sizeFrom 72 = .ok (.ifCond .eq 101, 3) := dc_153 (a := 0) (b := 101) (v := 101) (by decide +kernel)
theorem dX35_sizeFrom_75 : decode cX35_sizeFrom 75 = .ok (.aload_n 0, 1) := dc_42 (by decide +kernel)
theorem dX35_sizeFrom_76 : decode cX35_sizeFrom 76 = .ok (.ldc_w 747, 3) := dc_19 (a := 2) (b := 235) (n := 747) (by decide +kernel)
theorem dX35_sizeFrom_79 : decode cX35_sizeFrom 79 = .ok (.invokevirtual 707, 3) := dc_182 (a := 2) (b := 195) (n := 707) (by decide +kernel)
theorem dX35_sizeFrom_82 : decode cX35_sizeFrom 82 = .ok (.ifCond .eq 91, 3) := dc_153 (a := 0) (b := 91) (v := 91) (by decide +kernel)
theorem dX35_sizeFrom_85 : decode cX35_sizeFrom 85 = .ok (.iconst 1, 1) := dc_4 (by decide +kernel)
theorem dX35_sizeFrom_86 : decode cX35_sizeFrom 86 = .ok (.istore 4, 2) := dc_54 (a := 4) (by decide +kernel)
theorem dX35_sizeFrom_88 : decode cX35_sizeFrom 88 = .ok (.iload 4, 2) := dc_21 (a := 4) (by decide +kernel)
theorem dX35_sizeFrom_90 : decode cX35_sizeFrom 90 = .ok (.iconst 3, 1) := dc_6 (by decide +kernel)
theorem dX35_sizeFrom_91 : decode cX35_sizeFrom 91 = .ok (.if_icmp .ge 26, 3) := dc_162 (a := 0) (b := 26) (v := 26) (by decide +kernel)
theorem dX35_sizeFrom_94 : decode cX35_sizeFrom 94 = .ok (.aload_n 0, 1) := dc_42 (by decide +kernel)
theorem dX35_sizeFrom_95 : decode cX35_sizeFrom 95 = .ok (.getfield 321, 3) := dc_180 (a := 1) (b := 65) (n := 321) (by decide +kernel)
theorem dX35_sizeFrom_98 : decode cX35_sizeFrom 98 = .ok (.ifCond .ne 19, 3) := dc_154 (a := 0) (b := 19) (v := 19) (by decide +kernel)
theorem dX35_sizeFrom_101 : decode cX35_sizeFrom 101 = .ok (.aload_n 0, 1) := dc_42 (by decide +kernel)
theorem dX35_sizeFrom_102 : decode cX35_sizeFrom 102 = .ok (.ldc_w 749, 3) := dc_19 (a := 2) (b := 237) (n := 749) (by decide +kernel)
theorem dX35_sizeFrom_105 : decode cX35_sizeFrom 105 = .ok (.invokevirtual 707, 3) := dc_182 (a := 2) (b := 195) (n := 707) (by decide +kernel)
theorem dX35_sizeFrom_108 : decode cX35_sizeFrom 108 = .ok (.ifCond .eq 9, 3) := dc_153 (a := 0) (b := 9) (v := 9) (by decide +kernel)
theorem dX35_sizeFrom_111 : decode cX35_sizeFrom 111 = .ok (.iinc 4 1, 3) := dc_132 (a := 4) (b := 1) (v := 1) (by decide +kernel)
theorem dX35_sizeFrom_114 : decode cX35_sizeFrom 114 = .ok (.goto (-26), 3) := dc_167 (a := 255) (b := 230) (v := -26) (by decide +kernel)
theorem dX35_sizeFrom_117 : decode cX35_sizeFrom 117 = .ok (.aload_n 0, 1) := dc_42 (by decide +kernel)
theorem dX35_sizeFrom_118 : decode cX35_sizeFrom 118 = .ok (.invokevirtual 648, 3) := dc_182 (a := 2) (b := 136) (n := 648) (by decide +kernel)
theorem dX35_sizeFrom_121 : decode cX35_sizeFrom 121 = .ok (.aload_n 0, 1) := dc_42 (by decide +kernel)
theorem dX35_sizeFrom_122 : decode cX35_sizeFrom 122 = .ok (.getfield 321, 3) := dc_180 (a := 1) (b := 65) (n := 321) (by decide +kernel)
theorem dX35_sizeFrom_125 : decode cX35_sizeFrom 125 = .ok (.ifCond .ne 21, 3) := dc_154 (a := 0) (b := 21) (v := 21) (by decide +kernel)
theorem dX35_sizeFrom_128 : decode cX35_sizeFrom 128 = .ok (.lload 7, 2) := dc_22 (a := 7) (by decide +kernel)
theorem dX35_sizeFrom_130 : decode cX35_sizeFrom 130 = .ok (.ldc2_w 751, 3) := dc_20 (a := 2) (b := 239) (n := 751) (by decide +kernel)
theorem dX35_sizeFrom_133 : decode cX35_sizeFrom 133 = .ok (.lload 9, 2) := dc_22 (a := 9) (by decide +kernel)
theorem dX35_sizeFrom_135 : decode cX35_sizeFrom 135 = .ok (.lmul, 1) := dc_105 (by decide +kernel)
theorem dX35_sizeFrom_136 : decode cX35_sizeFrom 136 = .ok (.lcmp, 1) := dc_148 (by decide +kernel)
theorem dX35_sizeFrom_137 : decode cX35_sizeFrom 137 = .ok (.ifCond .lt 9, 3) := dc_155 (a := 0) (b := 9) (v := 9) (by decide +kernel)
theorem dX35_sizeFrom_140 : decode cX35_sizeFrom 140 = .ok (.aload_n 0, 1) := dc_42 (by decide +kernel)
theorem dX35_sizeFrom_141 : decode cX35_sizeFrom 141 = .ok (.bipush 7, 2) := dc_16 (a := 7) (v := 7) (by decide +kernel)
theorem dX35_sizeFrom_143 : decode cX35_sizeFrom 143 = .ok (.invokevirtual 428, 3) := dc_182 (a := 1) (b := 172) (n := 428) (by decide +kernel)
theorem dX35_sizeFrom_146 : decode cX35_sizeFrom 146 = .ok (.aload_n 0, 1) := dc_42 (by decide +kernel)
theorem dX35_sizeFrom_147 : decode cX35_sizeFrom 147 = .ok (.getfield 321, 3) := dc_180 (a := 1) (b := 65) (n := 321) (by decide +kernel)
theorem dX35_sizeFrom_150 : decode cX35_sizeFrom 150 = .ok (.ifCond .le 7, 3) := dc_158 (a := 0) (b := 7) (v := 7) (by decide +kernel)
theorem dX35_sizeFrom_153 : decode cX35_sizeFrom 153 = .ok (.lconst 0, 1) := dc_9 (by decide +kernel)
theorem dX35_sizeFrom_154 : decode cX35_sizeFrom 154 = .ok (.goto 14, 3) := dc_167 (a := 0) (b := 14) (v := 14) (by decide +kernel)
theorem dX35_sizeFrom_157 : decode cX35_sizeFrom 157 = .ok (.lload 7, 2) := dc_22 (a := 7) (by decide +kernel)
theorem dX35_sizeFrom_159 : decode cX35_sizeFrom 159 = .ok (.lload 9, 2) := dc_22 (a := 9) (by decide +kernel)
theorem dX35_sizeFrom_161 : decode cX35_sizeFrom 161 = .ok (.ldc2_w 714, 3) := dc_20 (a := 2) (b := 202) (n := 714) (by decide +kernel)
theorem dX35_sizeFrom_164 : decode cX35_sizeFrom 164 = .ok (.lconst 1, 1) := dc_10 (by decide +kernel)
theorem dX35_sizeFrom_165 : decode cX35_sizeFrom 165 = .ok (.invokestatic 732, 3) := dc_184 (a := 2) (b := 220) (n := 732) (by decide +kernel)
theorem dX35_sizeFrom_168 : decode cX35_sizeFrom 168 = .ok (.lstore 5, 2) := dc_55 (a := 5) (by decide +kernel)
theorem dX35_sizeFrom_170 : decode cX35_sizeFrom 170 = .ok (.goto 20, 3) := dc_167 (a := 0) (b := 20) (v := 20) (by decide +kernel)
theorem dX35_sizeFrom_173 : decode cX35_sizeFrom 173 = .ok (.aload_n 0, 1) := dc_42 (by decide +kernel)
theorem dX35_sizeFrom_174 : decode cX35_sizeFrom 174 = .ok (.getfield 321, 3) := dc_180 (a := 1) (b := 65) (n := 321) (by decide +kernel)
theorem dX35_sizeFrom_177 : decode cX35_sizeFrom 177 = .ok (.ifCond .ne 13, 3) := dc_154 (a := 0) (b := 13) (v := 13) (by decide +kernel)
theorem dX35_sizeFrom_180 : decode cX35_sizeFrom 180 = .ok (.aload_n 0, 1) := dc_42 (by decide +kernel)
theorem dX35_sizeFrom_181 : decode cX35_sizeFrom 181 = .ok (.lload 7, 2) := dc_22 (a := 7) (by decide +kernel)
theorem dX35_sizeFrom_183 : decode cX35_sizeFrom 183 = .ok (.lload 9, 2) := dc_22 (a := 9) (by decide +kernel)
theorem dX35_sizeFrom_185 : decode cX35_sizeFrom 185 = .ok (.invokevirtual 753, 3) := dc_182 (a := 2) (b := 241) (n := 753) (by decide +kernel)
theorem dX35_sizeFrom_188 : decode cX35_sizeFrom 188 = .ok (.lstore 5, 2) := dc_55 (a := 5) (by decide +kernel)
theorem dX35_sizeFrom_190 : decode cX35_sizeFrom 190 = .ok (.aload_n 0, 1) := dc_42 (by decide +kernel)
theorem dX35_sizeFrom_191 : decode cX35_sizeFrom 191 = .ok (.iload 4, 2) := dc_21 (a := 4) (by decide +kernel)
theorem dX35_sizeFrom_193 : decode cX35_sizeFrom 193 = .ok (.putfield 757, 3) := dc_181 (a := 2) (b := 245) (n := 757) (by decide +kernel)
theorem dX35_sizeFrom_196 : decode cX35_sizeFrom 196 = .ok (.aload_n 0, 1) := dc_42 (by decide +kernel)
theorem dX35_sizeFrom_197 : decode cX35_sizeFrom 197 = .ok (.iload_n 2, 1) := dc_28 (by decide +kernel)
theorem dX35_sizeFrom_198 : decode cX35_sizeFrom 198 = .ok (.ifCond .eq 9, 3) := dc_153 (a := 0) (b := 9) (v := 9) (by decide +kernel)
theorem dX35_sizeFrom_201 : decode cX35_sizeFrom 201 = .ok (.lload 5, 2) := dc_22 (a := 5) (by decide +kernel)
theorem dX35_sizeFrom_203 : decode cX35_sizeFrom 203 = .ok (.lneg, 1) := dc_117 (by decide +kernel)
theorem dX35_sizeFrom_204 : decode cX35_sizeFrom 204 = .ok (.goto 5, 3) := dc_167 (a := 0) (b := 5) (v := 5) (by decide +kernel)
theorem dX35_sizeFrom_207 : decode cX35_sizeFrom 207 = .ok (.lload 5, 2) := dc_22 (a := 5) (by decide +kernel)
theorem dX35_sizeFrom_209 : decode cX35_sizeFrom 209 = .ok (.invokevirtual 760, 3) := dc_182 (a := 2) (b := 248) (n := 760) (by decide +kernel)
theorem dX35_sizeFrom_212 : decode cX35_sizeFrom 212 = .ok (.ireturn, 1) := dc_172 (by decide +kernel)
theorem GX35_674 {w : eW} {d : Nat} {Y : eY} {pc : Nat} {ls : eL} {st : List Value} {h : eH} {Q : eO → eH → Prop} {a : Nat} {x : Int64} (hf : g_J 34 h a 118 = some x) (hd : decode Y.2.1 pc = .ok (.getfield 674, 3)) (hY : Y.1.cls = RX35) (kk : wp w d Y (pc + 3) ls (.long x :: st) h Q) : wp w d Y pc ls (.ref a :: st) h Q := x_gJ (ci := 34) (k := 118) hf hd rfl (by decide) (by rw [hY]; exact q4619) kk
theorem GX35_678 {w : eW} {d : Nat} {Y : eY} {pc : Nat} {ls : eL} {st : List Value} {h : eH} {Q : eO → eH → Prop} {a : Nat} {x : Int64} (hf : g_J 34 h a 119 = some x) (hd : decode Y.2.1 pc = .ok (.getfield 678, 3)) (hY : Y.1.cls = RX35) (kk : wp w d Y (pc + 3) ls (.long x :: st) h Q) : wp w d Y pc ls (.ref a :: st) h Q := x_gJ (ci := 34) (k := 119) hf hd rfl (by decide) (by rw [hY]; exact q4620) kk
theorem SX35_757 {w : eW} {d : Nat} {Y : eY} {pc : Nat} {ls : eL} {st : List Value} {h : eH} {Q : eO → eH → Prop} {a : Nat} {h' : eH} {x : Int32} (hf : p_V 34 h a 120 (.int x) = some h') (hd : decode Y.2.1 pc = .ok (.putfield 757, 3)) (hY : Y.1.cls = RX35) (kk : wp w d Y (pc + 3) ls st h' Q) : wp w d Y pc ls (.int x :: .ref a :: st) h Q := x_pI (ci := 34) (k := 120) hf hd rfl (by decide) (by rw [hY]; exact q4621) rfl rfl kk
def fX35_sizeFrom_b209 (N : Nat) (sE : Nat → Int32 → eH → Option (Unit × eH)) (sN : Nat → eH → Option (Int32 × eH)) (s0 : Nat) (s1 : Int64) (h : eH) : Option (Int32 × eH) :=
  (k_ok 34 h s0).bind fun _ =>
  (fX35_sized s0 s1 h).bind fun q2 =>
  some (q2.1, q2.2)
theorem pX35_sizeFrom_b209 {w : eW} {d : Nat} {dr : Nat} (hd : dr + 9 ≤ d + 1) (hdr : 12 ≤ dr) {N : Nat} {sE : Nat → Int32 → eH → Option (Unit × eH)} {sN : Nat → eH → Option (Int32 × eH)} (hsE : ∀ a t0 h q, sE a t0 h = some q → wm w dr YX35_expand [.ref a, .int t0] h (e_is (e_rn c_V q))) (hsN : ∀ a h q, sN a h = some q → wm w dr YX35_number [.ref a] h (e_is (e_rn c_I q))) {s0 : Nat} {s1 : Int64} {h : eH} {q} (hf : fX35_sizeFrom_b209 N sE sN s0 s1 h = some q) : wp w (d + 1) YX35_sizeFrom 209 [none, none, none, none, none, none, none, none, none, none, none] [.long s1, .ref s0] h (e_is (e_rn c_I q)) := by
  unfold fX35_sizeFrom_b209 at hf
  obtain ⟨_, b1, hf⟩ := Option.bind_eq_some_iff.mp hf
  refine x_cnI hf (e_stV (Yc := YX35_sized) (ci := 34) (av := [.long s1]) (st := []) dX35_sizeFrom_209 q5408 mX35_sized rfl (k_ok_some b1).1 (k_ok_some b1).2) mX35_sized.2.2.1 mX35_sized.2.2.2.2.1 (Nat.le_of_ble_eq_true rfl) (Nat.le_of_ble_eq_true rfl) (fun q hq => pX35_sized (by omega) hq) (fun q2 hf => ?_)
  cases hf
  exact w_iret dX35_sizeFrom_212 rfl rfl rfl
def fX35_sizeFrom_b190 (N : Nat) (sE : Nat → Int32 → eH → Option (Unit × eH)) (sN : Nat → eH → Option (Int32 × eH)) (l0 : Nat) (l2 : Int32) (l4 : Int32) (l5 : Int64) (h : eH) : Option (Int32 × eH) :=
  (p_V 34 h l0 120 (.int l4)).bind fun h1 =>
  if l2 = 0 then
    fX35_sizeFrom_b209 N sE sN l0 l5 h1
  else
    fX35_sizeFrom_b209 N sE sN l0 (-l5) h1
theorem pX35_sizeFrom_b190 {w : eW} {d : Nat} {dr : Nat} (hd : dr + 9 ≤ d + 1) (hdr : 12 ≤ dr) {N : Nat} {sE : Nat → Int32 → eH → Option (Unit × eH)} {sN : Nat → eH → Option (Int32 × eH)} (hsE : ∀ a t0 h q, sE a t0 h = some q → wm w dr YX35_expand [.ref a, .int t0] h (e_is (e_rn c_V q))) (hsN : ∀ a h q, sN a h = some q → wm w dr YX35_number [.ref a] h (e_is (e_rn c_I q))) {l0 : Nat} {l2 : Int32} {l4 : Int32} {l5 : Int64} {h : eH} {q} (hf : fX35_sizeFrom_b190 N sE sN l0 l2 l4 l5 h = some q) : wp w (d + 1) YX35_sizeFrom 190 [some (.ref l0), none, some (.int l2), none, some (.int l4), some (.long l5), none, none, none, none, none] [] h (e_is (e_rn c_I q)) := by
  unfold fX35_sizeFrom_b190 at hf
  refine w_aload_n dX35_sizeFrom_190 rfl rfl ?_
  refine w_iload dX35_sizeFrom_191 rfl ?_
  obtain ⟨h1, b2, hf⟩ := Option.bind_eq_some_iff.mp hf
  refine SX35_757 b2 dX35_sizeFrom_193 rfl ?_
  refine w_aload_n dX35_sizeFrom_196 rfl rfl ?_
  refine w_iload_n dX35_sizeFrom_197 rfl rfl ?_
  refine w_if_eq 207 dX35_sizeFrom_198 (by decide) (fun c3 => ?_) (fun c3 => ?_)
  · replace hf := (if_pos (show l2 = 0 from c3)).symm.trans hf
    refine w_lload dX35_sizeFrom_207 rfl ?_
    exact (pX35_sizeFrom_b209 hd hdr hsE hsN hf).to trivial
  · replace hf := (if_neg (show ¬ (l2 = 0) from c3)).symm.trans hf
    refine w_lload dX35_sizeFrom_201 rfl ?_
    refine w_lneg dX35_sizeFrom_203 ?_
    refine w_goto 209 dX35_sizeFrom_204 (by decide) ?_
    exact (pX35_sizeFrom_b209 hd hdr hsE hsN hf).to trivial
def fX35_sizeFrom_b29 (N : Nat) (sE : Nat → Int32 → eH → Option (Unit × eH)) (sN : Nat → eH → Option (Int32 × eH)) (l0 : Nat) (l1 : Int32) (l2 : Int32) (l4 : Int32) (h : eH) : Option (Int32 × eH) :=
  (k_ok 34 h l0).bind fun _ =>
  (fX35_lengthOf sN l0 l1 h).bind fun q2 =>
  fX35_sizeFrom_b190 N sE sN l0 l2 l4 (q2.1).toInt64 q2.2
theorem pX35_sizeFrom_b29 {w : eW} {d : Nat} {dr : Nat} (hd : dr + 9 ≤ d + 1) (hdr : 12 ≤ dr) {N : Nat} {sE : Nat → Int32 → eH → Option (Unit × eH)} {sN : Nat → eH → Option (Int32 × eH)} (hsE : ∀ a t0 h q, sE a t0 h = some q → wm w dr YX35_expand [.ref a, .int t0] h (e_is (e_rn c_V q))) (hsN : ∀ a h q, sN a h = some q → wm w dr YX35_number [.ref a] h (e_is (e_rn c_I q))) {l0 : Nat} {l1 : Int32} {l2 : Int32} {l4 : Int32} {h : eH} {q} (hf : fX35_sizeFrom_b29 N sE sN l0 l1 l2 l4 h = some q) : wp w (d + 1) YX35_sizeFrom 29 [some (.ref l0), some (.int l1), some (.int l2), none, some (.int l4), none, none, none, none, none, none] [] h (e_is (e_rn c_I q)) := by
  unfold fX35_sizeFrom_b29 at hf
  refine w_aload_n dX35_sizeFrom_29 rfl rfl ?_
  refine w_iload_n dX35_sizeFrom_30 rfl rfl ?_
  obtain ⟨_, b1, hf⟩ := Option.bind_eq_some_iff.mp hf
  refine x_cnI hf (e_stV (Yc := YX35_lengthOf) (ci := 34) (av := [.int l1]) (st := []) dX35_sizeFrom_31 q5296 mX35_lengthOf rfl (k_ok_some b1).1 (k_ok_some b1).2) mX35_lengthOf.2.2.1 mX35_lengthOf.2.2.2.2.1 (Nat.le_of_ble_eq_true rfl) (Nat.le_of_ble_eq_true rfl) (fun q hq => pX35_lengthOf (by omega) hdr hsN hq) (fun q2 hf => ?_)
  refine w_i2l dX35_sizeFrom_34 ?_
  refine w_lstore dX35_sizeFrom_35 (by decide) (ls' := [some (.ref l0), some (.int l1), some (.int l2), none, some (.int l4), some (.long (q2.1).toInt64), none, none, none, none, none]) rfl ?_
  refine w_goto 190 dX35_sizeFrom_37 (by decide) ?_
  exact (pX35_sizeFrom_b190 hd hdr hsE hsN hf).to ⟨rfl, rfl, rfl, rfl, trivial⟩
def fX35_sizeFrom_b168 (N : Nat) (sE : Nat → Int32 → eH → Option (Unit × eH)) (sN : Nat → eH → Option (Int32 × eH)) (l0 : Nat) (l2 : Int32) (l4 : Int32) (s0 : Int64) (h : eH) : Option (Int32 × eH) :=
  fX35_sizeFrom_b190 N sE sN l0 l2 l4 s0 h
theorem pX35_sizeFrom_b168 {w : eW} {d : Nat} {dr : Nat} (hd : dr + 9 ≤ d + 1) (hdr : 12 ≤ dr) {N : Nat} {sE : Nat → Int32 → eH → Option (Unit × eH)} {sN : Nat → eH → Option (Int32 × eH)} (hsE : ∀ a t0 h q, sE a t0 h = some q → wm w dr YX35_expand [.ref a, .int t0] h (e_is (e_rn c_V q))) (hsN : ∀ a h q, sN a h = some q → wm w dr YX35_number [.ref a] h (e_is (e_rn c_I q))) {l0 : Nat} {l2 : Int32} {l4 : Int32} {s0 : Int64} {h : eH} {q} (hf : fX35_sizeFrom_b168 N sE sN l0 l2 l4 s0 h = some q) : wp w (d + 1) YX35_sizeFrom 168 [some (.ref l0), none, some (.int l2), none, some (.int l4), none, none, none, none, none, none] [.long s0] h (e_is (e_rn c_I q)) := by
  unfold fX35_sizeFrom_b168 at hf
  refine w_lstore dX35_sizeFrom_168 (by decide) (ls' := [some (.ref l0), none, some (.int l2), none, some (.int l4), some (.long s0), none, none, none, none, none]) rfl ?_
  refine w_goto 190 dX35_sizeFrom_170 (by decide) ?_
  exact (pX35_sizeFrom_b190 hd hdr hsE hsN hf).to ⟨rfl, rfl, rfl, rfl, trivial⟩
def fX35_sizeFrom_b146 (N : Nat) (sE : Nat → Int32 → eH → Option (Unit × eH)) (sN : Nat → eH → Option (Int32 × eH)) (l0 : Nat) (l2 : Int32) (l4 : Int32) (l7 : Int64) (l9 : Int64) (h : eH) : Option (Int32 × eH) :=
  (g_I 34 h l0 46).bind fun x1 =>
  if x1 ≤ 0 then
    (fX35_times l7 l9 (65536 : Int64) (1 : Int64) h).bind fun q4 =>
    fX35_sizeFrom_b168 N sE sN l0 l2 l4 q4.1 q4.2
  else
    fX35_sizeFrom_b168 N sE sN l0 l2 l4 (0 : Int64) h
theorem pX35_sizeFrom_b146 {w : eW} {d : Nat} {dr : Nat} (hd : dr + 9 ≤ d + 1) (hdr : 12 ≤ dr) {N : Nat} {sE : Nat → Int32 → eH → Option (Unit × eH)} {sN : Nat → eH → Option (Int32 × eH)} (hsE : ∀ a t0 h q, sE a t0 h = some q → wm w dr YX35_expand [.ref a, .int t0] h (e_is (e_rn c_V q))) (hsN : ∀ a h q, sN a h = some q → wm w dr YX35_number [.ref a] h (e_is (e_rn c_I q))) {l0 : Nat} {l2 : Int32} {l4 : Int32} {l7 : Int64} {l9 : Int64} {h : eH} {q} (hf : fX35_sizeFrom_b146 N sE sN l0 l2 l4 l7 l9 h = some q) : wp w (d + 1) YX35_sizeFrom 146 [some (.ref l0), none, some (.int l2), none, some (.int l4), none, none, some (.long l7), none, some (.long l9), none] [] h (e_is (e_rn c_I q)) := by
  unfold fX35_sizeFrom_b146 at hf
  refine w_aload_n dX35_sizeFrom_146 rfl rfl ?_
  obtain ⟨x1, b2, hf⟩ := Option.bind_eq_some_iff.mp hf
  refine GX35_321 b2 dX35_sizeFrom_147 rfl ?_
  refine w_if_le 157 dX35_sizeFrom_150 (by decide) (fun c3 => ?_) (fun c3 => ?_)
  · replace hf := (if_pos (show x1 ≤ 0 from c3)).symm.trans hf
    refine w_lload dX35_sizeFrom_157 rfl ?_
    refine w_lload dX35_sizeFrom_159 rfl ?_
    refine w_ldc2 dX35_sizeFrom_161 q5357 ?_
    refine w_lconst dX35_sizeFrom_164 (v := 1) (by decide) ?_
    refine x_cnJ hf (e_stS (Yc := YX35_times) (av := [.long l7, .long l9, .long (65536 : Int64), .long (1 : Int64)]) (st := []) dX35_sizeFrom_165 q5358 mX35_times) mX35_times.2.2.1 mX35_times.2.2.2.2.1 (Nat.le_of_ble_eq_true rfl) (Nat.le_of_ble_eq_true rfl) (fun q hq => pX35_times (by omega) hq) (fun q4 hf => ?_)
    exact (pX35_sizeFrom_b168 hd hdr hsE hsN hf).to ⟨rfl, rfl, rfl, trivial⟩
  · replace hf := (if_neg (show ¬ (x1 ≤ 0) from c3)).symm.trans hf
    refine w_lconst dX35_sizeFrom_153 (v := 0) (by decide) ?_
    refine w_goto 168 dX35_sizeFrom_154 (by decide) ?_
    exact (pX35_sizeFrom_b168 hd hdr hsE hsN hf).to ⟨rfl, rfl, rfl, trivial⟩
def fX35_sizeFrom_b117 (N : Nat) (sE : Nat → Int32 → eH → Option (Unit × eH)) (sN : Nat → eH → Option (Int32 × eH)) (l0 : Nat) (l2 : Int32) (l4 : Int32) (l7 : Int64) (l9 : Int64) (h : eH) : Option (Int32 × eH) :=
  (k_ok 34 h l0).bind fun _ =>
  (fX35_dropSpace N sE l0 h).bind fun q2 =>
  (g_I 34 q2.2 l0 46).bind fun x3 =>
  if ¬ x3 = 0 then
    fX35_sizeFrom_b146 N sE sN l0 l2 l4 l7 l9 q2.2
  else
    if (lg_cmp l7 ((16384 : Int64) * l9)) < 0 then
      fX35_sizeFrom_b146 N sE sN l0 l2 l4 l7 l9 q2.2
    else
      (k_ok 34 q2.2 l0).bind fun _ =>
      (fX35_fail l0 (7 : Int32) q2.2).bind fun q8 =>
      fX35_sizeFrom_b146 N sE sN l0 l2 l4 l7 l9 q8.2
theorem pX35_sizeFrom_b117 {w : eW} {d : Nat} {dr : Nat} (hd : dr + 9 ≤ d + 1) (hdr : 12 ≤ dr) {N : Nat} {sE : Nat → Int32 → eH → Option (Unit × eH)} {sN : Nat → eH → Option (Int32 × eH)} (hsE : ∀ a t0 h q, sE a t0 h = some q → wm w dr YX35_expand [.ref a, .int t0] h (e_is (e_rn c_V q))) (hsN : ∀ a h q, sN a h = some q → wm w dr YX35_number [.ref a] h (e_is (e_rn c_I q))) {l0 : Nat} {l2 : Int32} {l4 : Int32} {l7 : Int64} {l9 : Int64} {h : eH} {q} (hf : fX35_sizeFrom_b117 N sE sN l0 l2 l4 l7 l9 h = some q) : wp w (d + 1) YX35_sizeFrom 117 [some (.ref l0), none, some (.int l2), none, some (.int l4), none, none, some (.long l7), none, some (.long l9), none] [] h (e_is (e_rn c_I q)) := by
  unfold fX35_sizeFrom_b117 at hf
  refine w_aload_n dX35_sizeFrom_117 rfl rfl ?_
  obtain ⟨_, b1, hf⟩ := Option.bind_eq_some_iff.mp hf
  refine x_cnV hf (e_stV (Yc := YX35_dropSpace) (ci := 34) (av := []) (st := []) dX35_sizeFrom_118 q5246 mX35_dropSpace rfl (k_ok_some b1).1 (k_ok_some b1).2) mX35_dropSpace.2.2.1 mX35_dropSpace.2.2.2.2.1 (Nat.le_of_ble_eq_true rfl) (Nat.le_of_ble_eq_true rfl) (fun q hq => pX35_dropSpace (by omega) hdr hsE hq) (fun q2 hf => ?_)
  refine w_aload_n dX35_sizeFrom_121 rfl rfl ?_
  obtain ⟨x3, b4, hf⟩ := Option.bind_eq_some_iff.mp hf
  refine GX35_321 b4 dX35_sizeFrom_122 rfl ?_
  refine w_if_ne 146 dX35_sizeFrom_125 (by decide) (fun c5 => ?_) (fun c5 => ?_)
  · replace hf := (if_pos (show ¬ x3 = 0 from c5)).symm.trans hf
    exact (pX35_sizeFrom_b146 hd hdr hsE hsN hf).to ⟨rfl, rfl, rfl, rfl, rfl, trivial⟩
  · replace hf := (if_neg (show ¬ (¬ x3 = 0) from (fun z => z c5))).symm.trans hf
    refine w_lload dX35_sizeFrom_128 rfl ?_
    refine w_ldc2 dX35_sizeFrom_130 q5356 ?_
    refine w_lload dX35_sizeFrom_133 rfl ?_
    refine w_lmul dX35_sizeFrom_135 ?_
    refine w_lcmp dX35_sizeFrom_136 ?_
    refine w_if_lt 146 dX35_sizeFrom_137 (by decide) (fun c6 => ?_) (fun c6 => ?_)
    · replace hf := (if_pos (show (lg_cmp l7 ((16384 : Int64) * l9)) < 0 from c6)).symm.trans hf
      exact (pX35_sizeFrom_b146 hd hdr hsE hsN hf).to ⟨rfl, rfl, rfl, rfl, rfl, trivial⟩
    · replace hf := (if_neg (show ¬ ((lg_cmp l7 ((16384 : Int64) * l9)) < 0) from c6)).symm.trans hf
      refine w_aload_n dX35_sizeFrom_140 rfl rfl ?_
      refine w_bipush dX35_sizeFrom_141 (v := 7) (by decide) ?_
      obtain ⟨_, b7, hf⟩ := Option.bind_eq_some_iff.mp hf
      refine x_cnV hf (e_stV (Yc := YX35_fail) (ci := 34) (av := [.int (7 : Int32)]) (st := []) dX35_sizeFrom_143 q5109 mX35_fail rfl (k_ok_some b7).1 (k_ok_some b7).2) mX35_fail.2.2.1 mX35_fail.2.2.2.2.1 (Nat.le_of_ble_eq_true rfl) (Nat.le_of_ble_eq_true rfl) (fun q hq => pX35_fail (by omega) hq) (fun q8 hf => ?_)
      exact (pX35_sizeFrom_b146 hd hdr hsE hsN hf).to ⟨rfl, rfl, rfl, rfl, rfl, trivial⟩
def fX35_sizeFrom_b88 (N : Nat) (sE : Nat → Int32 → eH → Option (Unit × eH)) (sN : Nat → eH → Option (Int32 × eH)) : Nat → Nat → Int32 → Int32 → Int64 → Int64 → eH → Option (Int32 × eH)
  | 0, _, _, _, _, _, _ => none
  | n + 1, l0, l2, l4, l7, l9, h =>
    if (3 : Int32) ≤ l4 then
      fX35_sizeFrom_b117 N sE sN l0 l2 l4 l7 l9 h
    else
      (g_I 34 h l0 46).bind fun x2 =>
      if ¬ x2 = 0 then
        fX35_sizeFrom_b117 N sE sN l0 l2 l4 l7 l9 h
      else
        (k_ok 34 h l0).bind fun _ =>
        (fX35_keyword N sE l0 1000000125 h).bind fun q6 =>
        if q6.1 = 0 then
          fX35_sizeFrom_b117 N sE sN l0 l2 l4 l7 l9 q6.2
        else
          fX35_sizeFrom_b88 N sE sN n l0 l2 (l4 + (1 : Int32)) l7 l9 q6.2
theorem pX35_sizeFrom_b88 {w : eW} {d : Nat} {dr : Nat} (hd : dr + 9 ≤ d + 1) (hdr : 12 ≤ dr) {N : Nat} {sE : Nat → Int32 → eH → Option (Unit × eH)} {sN : Nat → eH → Option (Int32 × eH)} (hsE : ∀ a t0 h q, sE a t0 h = some q → wm w dr YX35_expand [.ref a, .int t0] h (e_is (e_rn c_V q))) (hsN : ∀ a h q, sN a h = some q → wm w dr YX35_number [.ref a] h (e_is (e_rn c_I q))) : ∀ (n : Nat) l0 l2 l4 l7 l9 h q, fX35_sizeFrom_b88 N sE sN n l0 l2 l4 l7 l9 h = some q → wp w (d + 1) YX35_sizeFrom 88 [some (.ref l0), none, some (.int l2), none, some (.int l4), none, none, some (.long l7), none, some (.long l9), none] [] h (e_is (e_rn c_I q)) := by
  intro n
  induction n with
  | zero => intro l0 l2 l4 l7 l9 h q hf; simp [fX35_sizeFrom_b88] at hf
  | succ n ih =>
    intro l0 l2 l4 l7 l9 h q hf
    rw [fX35_sizeFrom_b88] at hf
    refine w_iload dX35_sizeFrom_88 rfl ?_
    refine w_iconst dX35_sizeFrom_90 (v := 3) (by decide) ?_
    refine w_icmp_ge 117 dX35_sizeFrom_91 (by decide) (fun c1 => ?_) (fun c1 => ?_)
    · replace hf := (if_pos (show (3 : Int32) ≤ l4 from c1)).symm.trans hf
      exact (pX35_sizeFrom_b117 hd hdr hsE hsN hf).to ⟨rfl, rfl, rfl, rfl, rfl, trivial⟩
    · replace hf := (if_neg (show ¬ ((3 : Int32) ≤ l4) from c1)).symm.trans hf
      refine w_aload_n dX35_sizeFrom_94 rfl rfl ?_
      obtain ⟨x2, b3, hf⟩ := Option.bind_eq_some_iff.mp hf
      refine GX35_321 b3 dX35_sizeFrom_95 rfl ?_
      refine w_if_ne 117 dX35_sizeFrom_98 (by decide) (fun c4 => ?_) (fun c4 => ?_)
      · replace hf := (if_pos (show ¬ x2 = 0 from c4)).symm.trans hf
        exact (pX35_sizeFrom_b117 hd hdr hsE hsN hf).to ⟨rfl, rfl, rfl, rfl, rfl, trivial⟩
      · replace hf := (if_neg (show ¬ (¬ x2 = 0) from (fun z => z c4))).symm.trans hf
        refine w_aload_n dX35_sizeFrom_101 rfl rfl ?_
        refine x_ldcSw (k := 25) dX35_sizeFrom_102 rfl ?_
        obtain ⟨_, b5, hf⟩ := Option.bind_eq_some_iff.mp hf
        refine x_cnI hf (e_stV (Yc := YX35_keyword) (ci := 34) (av := [.ref 1000000125]) (st := []) dX35_sizeFrom_105 q5347 mX35_keyword rfl (k_ok_some b5).1 (k_ok_some b5).2) mX35_keyword.2.2.1 mX35_keyword.2.2.2.2.1 (Nat.le_of_ble_eq_true rfl) (Nat.le_of_ble_eq_true rfl) (fun q hq => pX35_keyword (by omega) hdr hsE hq) (fun q6 hf => ?_)
        refine w_if_eq 117 dX35_sizeFrom_108 (by decide) (fun c7 => ?_) (fun c7 => ?_)
        · replace hf := (if_pos (show q6.1 = 0 from c7)).symm.trans hf
          exact (pX35_sizeFrom_b117 hd hdr hsE hsN hf).to ⟨rfl, rfl, rfl, rfl, rfl, trivial⟩
        · replace hf := (if_neg (show ¬ (q6.1 = 0) from c7)).symm.trans hf
          refine w_iinc dX35_sizeFrom_111 (v := (l4 + (1 : Int32))) rfl rfl (by decide) (ls' := [some (.ref l0), none, some (.int l2), none, some (.int (l4 + (1 : Int32))), none, none, some (.long l7), none, some (.long l9), none]) rfl ?_
          refine w_goto 88 dX35_sizeFrom_114 (by decide) ?_
          exact (ih _ _ _ _ _ _ _ hf).to ⟨rfl, rfl, rfl, rfl, rfl, trivial⟩
def fX35_sizeFrom_b173 (N : Nat) (sE : Nat → Int32 → eH → Option (Unit × eH)) (sN : Nat → eH → Option (Int32 × eH)) (l0 : Nat) (l2 : Int32) (l4 : Int32) (l5 : Int64) (l7 : Int64) (l9 : Int64) (h : eH) : Option (Int32 × eH) :=
  (g_I 34 h l0 46).bind fun x1 =>
  if ¬ x1 = 0 then
    fX35_sizeFrom_b190 N sE sN l0 l2 l4 l5 h
  else
    (k_ok 34 h l0).bind fun _ =>
    (fX35_measured N sE sN l0 l7 l9 h).bind fun q5 =>
    fX35_sizeFrom_b190 N sE sN l0 l2 l4 q5.1 q5.2
theorem pX35_sizeFrom_b173 {w : eW} {d : Nat} {dr : Nat} (hd : dr + 9 ≤ d + 1) (hdr : 12 ≤ dr) {N : Nat} {sE : Nat → Int32 → eH → Option (Unit × eH)} {sN : Nat → eH → Option (Int32 × eH)} (hsE : ∀ a t0 h q, sE a t0 h = some q → wm w dr YX35_expand [.ref a, .int t0] h (e_is (e_rn c_V q))) (hsN : ∀ a h q, sN a h = some q → wm w dr YX35_number [.ref a] h (e_is (e_rn c_I q))) {l0 : Nat} {l2 : Int32} {l4 : Int32} {l5 : Int64} {l7 : Int64} {l9 : Int64} {h : eH} {q} (hf : fX35_sizeFrom_b173 N sE sN l0 l2 l4 l5 l7 l9 h = some q) : wp w (d + 1) YX35_sizeFrom 173 [some (.ref l0), none, some (.int l2), none, some (.int l4), some (.long l5), none, some (.long l7), none, some (.long l9), none] [] h (e_is (e_rn c_I q)) := by
  unfold fX35_sizeFrom_b173 at hf
  refine w_aload_n dX35_sizeFrom_173 rfl rfl ?_
  obtain ⟨x1, b2, hf⟩ := Option.bind_eq_some_iff.mp hf
  refine GX35_321 b2 dX35_sizeFrom_174 rfl ?_
  refine w_if_ne 190 dX35_sizeFrom_177 (by decide) (fun c3 => ?_) (fun c3 => ?_)
  · replace hf := (if_pos (show ¬ x1 = 0 from c3)).symm.trans hf
    exact (pX35_sizeFrom_b190 hd hdr hsE hsN hf).to ⟨rfl, rfl, rfl, rfl, trivial⟩
  · replace hf := (if_neg (show ¬ (¬ x1 = 0) from (fun z => z c3))).symm.trans hf
    refine w_aload_n dX35_sizeFrom_180 rfl rfl ?_
    refine w_lload dX35_sizeFrom_181 rfl ?_
    refine w_lload dX35_sizeFrom_183 rfl ?_
    obtain ⟨_, b4, hf⟩ := Option.bind_eq_some_iff.mp hf
    refine x_cnJ hf (e_stV (Yc := YX35_measured) (ci := 34) (av := [.long l7, .long l9]) (st := []) dX35_sizeFrom_185 q5361 mX35_measured rfl (k_ok_some b4).1 (k_ok_some b4).2) mX35_measured.2.2.1 mX35_measured.2.2.2.2.1 (Nat.le_of_ble_eq_true rfl) (Nat.le_of_ble_eq_true rfl) (fun q hq => pX35_measured (by omega) hdr hsE hsN hq) (fun q5 hf => ?_)
    refine w_lstore dX35_sizeFrom_188 (by decide) (ls' := [some (.ref l0), none, some (.int l2), none, some (.int l4), some (.long q5.1), none, some (.long l7), none, some (.long l9), none]) rfl ?_
    exact (pX35_sizeFrom_b190 hd hdr hsE hsN hf).to ⟨rfl, rfl, rfl, rfl, trivial⟩
def fX35_sizeFrom_b40 (N : Nat) (sE : Nat → Int32 → eH → Option (Unit × eH)) (sN : Nat → eH → Option (Int32 × eH)) (l0 : Nat) (l1 : Int32) (l2 : Int32) (l3 : Int32) (l4 : Int32) (l5 : Int64) (h : eH) : Option (Int32 × eH) :=
  (g_I 34 h l0 46).bind fun x1 =>
  if ¬ x1 = 0 then
    fX35_sizeFrom_b190 N sE sN l0 l2 l4 l5 h
  else
    (k_ok 34 h l0).bind fun _ =>
    (fX35_factor N sE sN l0 l1 h).bind fun q5 =>
    (g_J 34 q5.2 l0 118).bind fun x6 =>
    (g_J 34 q5.2 l0 119).bind fun x8 =>
    (g_I 34 q5.2 l0 46).bind fun x10 =>
    if ¬ x10 = 0 then
      fX35_sizeFrom_b173 N sE sN l0 l2 l4 l5 x6 x8 q5.2
    else
      if l3 = 0 then
        fX35_sizeFrom_b173 N sE sN l0 l2 l4 l5 x6 x8 q5.2
      else
        (k_ok 34 q5.2 l0).bind fun _ =>
        (fX35_keyword N sE l0 1000000124 q5.2).bind fun q15 =>
        if q15.1 = 0 then
          fX35_sizeFrom_b173 N sE sN l0 l2 l4 l5 x6 x8 q15.2
        else
          fX35_sizeFrom_b88 N sE sN N l0 l2 (1 : Int32) x6 x8 q15.2
theorem pX35_sizeFrom_b40 {w : eW} {d : Nat} {dr : Nat} (hd : dr + 9 ≤ d + 1) (hdr : 12 ≤ dr) {N : Nat} {sE : Nat → Int32 → eH → Option (Unit × eH)} {sN : Nat → eH → Option (Int32 × eH)} (hsE : ∀ a t0 h q, sE a t0 h = some q → wm w dr YX35_expand [.ref a, .int t0] h (e_is (e_rn c_V q))) (hsN : ∀ a h q, sN a h = some q → wm w dr YX35_number [.ref a] h (e_is (e_rn c_I q))) {l0 : Nat} {l1 : Int32} {l2 : Int32} {l3 : Int32} {l4 : Int32} {l5 : Int64} {h : eH} {q} (hf : fX35_sizeFrom_b40 N sE sN l0 l1 l2 l3 l4 l5 h = some q) : wp w (d + 1) YX35_sizeFrom 40 [some (.ref l0), some (.int l1), some (.int l2), some (.int l3), some (.int l4), some (.long l5), none, none, none, none, none] [] h (e_is (e_rn c_I q)) := by
  unfold fX35_sizeFrom_b40 at hf
  refine w_aload_n dX35_sizeFrom_40 rfl rfl ?_
  obtain ⟨x1, b2, hf⟩ := Option.bind_eq_some_iff.mp hf
  refine GX35_321 b2 dX35_sizeFrom_41 rfl ?_
  refine w_if_ne 190 dX35_sizeFrom_44 (by decide) (fun c3 => ?_) (fun c3 => ?_)
  · replace hf := (if_pos (show ¬ x1 = 0 from c3)).symm.trans hf
    exact (pX35_sizeFrom_b190 hd hdr hsE hsN hf).to ⟨rfl, rfl, rfl, rfl, trivial⟩
  · replace hf := (if_neg (show ¬ (¬ x1 = 0) from (fun z => z c3))).symm.trans hf
    refine w_aload_n dX35_sizeFrom_47 rfl rfl ?_
    refine w_iload_n dX35_sizeFrom_48 rfl rfl ?_
    obtain ⟨_, b4, hf⟩ := Option.bind_eq_some_iff.mp hf
    refine x_cnV hf (e_stV (Yc := YX35_factor) (ci := 34) (av := [.int l1]) (st := []) dX35_sizeFrom_49 q5341 mX35_factor rfl (k_ok_some b4).1 (k_ok_some b4).2) mX35_factor.2.2.1 mX35_factor.2.2.2.2.1 (Nat.le_of_ble_eq_true rfl) (Nat.le_of_ble_eq_true rfl) (fun q hq => pX35_factor (by omega) hdr hsE hsN hq) (fun q5 hf => ?_)
    refine w_aload_n dX35_sizeFrom_52 rfl rfl ?_
    obtain ⟨x6, b7, hf⟩ := Option.bind_eq_some_iff.mp hf
    refine GX35_674 b7 dX35_sizeFrom_53 rfl ?_
    refine w_lstore dX35_sizeFrom_56 (by decide) (ls' := [some (.ref l0), some (.int l1), some (.int l2), some (.int l3), some (.int l4), some (.long l5), none, some (.long x6), none, none, none]) rfl ?_
    refine w_aload_n dX35_sizeFrom_58 rfl rfl ?_
    obtain ⟨x8, b9, hf⟩ := Option.bind_eq_some_iff.mp hf
    refine GX35_678 b9 dX35_sizeFrom_59 rfl ?_
    refine w_lstore dX35_sizeFrom_62 (by decide) (ls' := [some (.ref l0), some (.int l1), some (.int l2), some (.int l3), some (.int l4), some (.long l5), none, some (.long x6), none, some (.long x8), none]) rfl ?_
    refine w_aload_n dX35_sizeFrom_64 rfl rfl ?_
    obtain ⟨x10, b11, hf⟩ := Option.bind_eq_some_iff.mp hf
    refine GX35_321 b11 dX35_sizeFrom_65 rfl ?_
    refine w_if_ne 173 dX35_sizeFrom_68 (by decide) (fun c12 => ?_) (fun c12 => ?_)
    · replace hf := (if_pos (show ¬ x10 = 0 from c12)).symm.trans hf
      exact (pX35_sizeFrom_b173 hd hdr hsE hsN hf).to ⟨rfl, rfl, rfl, rfl, rfl, rfl, trivial⟩
    · replace hf := (if_neg (show ¬ (¬ x10 = 0) from (fun z => z c12))).symm.trans hf
      refine w_iload_n dX35_sizeFrom_71 rfl rfl ?_
      refine w_if_eq 173 dX35_sizeFrom_72 (by decide) (fun c13 => ?_) (fun c13 => ?_)
      · replace hf := (if_pos (show l3 = 0 from c13)).symm.trans hf
        exact (pX35_sizeFrom_b173 hd hdr hsE hsN hf).to ⟨rfl, rfl, rfl, rfl, rfl, rfl, trivial⟩
      · replace hf := (if_neg (show ¬ (l3 = 0) from c13)).symm.trans hf
        refine w_aload_n dX35_sizeFrom_75 rfl rfl ?_
        refine x_ldcSw (k := 24) dX35_sizeFrom_76 rfl ?_
        obtain ⟨_, b14, hf⟩ := Option.bind_eq_some_iff.mp hf
        refine x_cnI hf (e_stV (Yc := YX35_keyword) (ci := 34) (av := [.ref 1000000124]) (st := []) dX35_sizeFrom_79 q5347 mX35_keyword rfl (k_ok_some b14).1 (k_ok_some b14).2) mX35_keyword.2.2.1 mX35_keyword.2.2.2.2.1 (Nat.le_of_ble_eq_true rfl) (Nat.le_of_ble_eq_true rfl) (fun q hq => pX35_keyword (by omega) hdr hsE hq) (fun q15 hf => ?_)
        refine w_if_eq 173 dX35_sizeFrom_82 (by decide) (fun c16 => ?_) (fun c16 => ?_)
        · replace hf := (if_pos (show q15.1 = 0 from c16)).symm.trans hf
          exact (pX35_sizeFrom_b173 hd hdr hsE hsN hf).to ⟨rfl, rfl, rfl, rfl, rfl, rfl, trivial⟩
        · replace hf := (if_neg (show ¬ (q15.1 = 0) from c16)).symm.trans hf
          refine w_iconst dX35_sizeFrom_85 (v := 1) (by decide) ?_
          refine w_istore dX35_sizeFrom_86 (by decide) (ls' := [some (.ref l0), some (.int l1), some (.int l2), some (.int l3), some (.int (1 : Int32)), some (.long l5), none, some (.long x6), none, some (.long x8), none]) rfl ?_
          exact (pX35_sizeFrom_b88 hd hdr hsE hsN N _ _ _ _ _ _ _ hf).to ⟨rfl, rfl, rfl, rfl, rfl, trivial⟩
def fX35_sizeFrom (N : Nat) (sE : Nat → Int32 → eH → Option (Unit × eH)) (sN : Nat → eH → Option (Int32 × eH)) (this : Nat) (p0 : Int32) (p1 : Int32) (p2 : Int32) (h : eH) : Option (Int32 × eH) :=
  (g_I 34 h this 46).bind fun x1 =>
  if ¬ x1 = 0 then
    fX35_sizeFrom_b40 N sE sN this p0 p1 p2 (0 : Int32) (0 : Int64) h
  else
    (k_ok 34 h this).bind fun _ =>
    (fX35_hasLength this p0 h).bind fun q5 =>
    if ¬ q5.1 = 0 then
      fX35_sizeFrom_b29 N sE sN this p0 p1 (0 : Int32) q5.2
    else
      (k_ok 34 q5.2 this).bind fun _ =>
      (fX35_hasGlue this p0 q5.2).bind fun q8 =>
      if q8.1 = 0 then
        fX35_sizeFrom_b40 N sE sN this p0 p1 p2 (0 : Int32) (0 : Int64) q8.2
      else
        fX35_sizeFrom_b29 N sE sN this p0 p1 (0 : Int32) q8.2
theorem pX35_sizeFrom {w : eW} {d : Nat} {dr : Nat} (hd : dr + 9 ≤ d) (hdr : 12 ≤ dr) {N : Nat} {sE : Nat → Int32 → eH → Option (Unit × eH)} {sN : Nat → eH → Option (Int32 × eH)} (hsE : ∀ a t0 h q, sE a t0 h = some q → wm w dr YX35_expand [.ref a, .int t0] h (e_is (e_rn c_V q))) (hsN : ∀ a h q, sN a h = some q → wm w dr YX35_number [.ref a] h (e_is (e_rn c_I q))) {this : Nat} {p0 : Int32} {p1 : Int32} {p2 : Int32} {h : eH} {q} (hf : fX35_sizeFrom N sE sN this p0 p1 p2 h = some q) : wm w d YX35_sizeFrom [.ref this, .int p0, .int p1, .int p2] h (e_is (e_rn c_I q)) := by
  obtain ⟨d, rfl⟩ : ∃ e, d = e + 1 := ⟨d - 1, by omega⟩
  show wp w (d + 1) YX35_sizeFrom 0 [some (.ref this), some (.int p0), some (.int p1), some (.int p2), none, none, none, none, none, none, none] [] h _
  unfold fX35_sizeFrom at hf
  refine w_iconst dX35_sizeFrom_0 (v := 0) (by decide) ?_
  refine w_istore dX35_sizeFrom_1 (by decide) (ls' := [some (.ref this), some (.int p0), some (.int p1), some (.int p2), some (.int (0 : Int32)), none, none, none, none, none, none]) rfl ?_
  refine w_lconst dX35_sizeFrom_3 (v := 0) (by decide) ?_
  refine w_lstore dX35_sizeFrom_4 (by decide) (ls' := [some (.ref this), some (.int p0), some (.int p1), some (.int p2), some (.int (0 : Int32)), some (.long (0 : Int64)), none, none, none, none, none]) rfl ?_
  refine w_aload_n dX35_sizeFrom_6 rfl rfl ?_
  obtain ⟨x1, b2, hf⟩ := Option.bind_eq_some_iff.mp hf
  refine GX35_321 b2 dX35_sizeFrom_7 rfl ?_
  refine w_if_ne 40 dX35_sizeFrom_10 (by decide) (fun c3 => ?_) (fun c3 => ?_)
  · replace hf := (if_pos (show ¬ x1 = 0 from c3)).symm.trans hf
    exact (pX35_sizeFrom_b40 hd hdr hsE hsN hf).to ⟨rfl, rfl, rfl, rfl, rfl, rfl, trivial⟩
  · replace hf := (if_neg (show ¬ (¬ x1 = 0) from (fun z => z c3))).symm.trans hf
    refine w_aload_n dX35_sizeFrom_13 rfl rfl ?_
    refine w_iload_n dX35_sizeFrom_14 rfl rfl ?_
    obtain ⟨_, b4, hf⟩ := Option.bind_eq_some_iff.mp hf
    refine x_cnI hf (e_stV (Yc := YX35_hasLength) (ci := 34) (av := [.int p0]) (st := []) dX35_sizeFrom_15 q5279 mX35_hasLength rfl (k_ok_some b4).1 (k_ok_some b4).2) mX35_hasLength.2.2.1 mX35_hasLength.2.2.2.2.1 (Nat.le_of_ble_eq_true rfl) (Nat.le_of_ble_eq_true rfl) (fun q hq => pX35_hasLength (by omega) hq) (fun q5 hf => ?_)
    refine w_if_ne 29 dX35_sizeFrom_18 (by decide) (fun c6 => ?_) (fun c6 => ?_)
    · replace hf := (if_pos (show ¬ q5.1 = 0 from c6)).symm.trans hf
      exact (pX35_sizeFrom_b29 hd hdr hsE hsN hf).to ⟨rfl, rfl, rfl, rfl, trivial⟩
    · replace hf := (if_neg (show ¬ (¬ q5.1 = 0) from (fun z => z c6))).symm.trans hf
      refine w_aload_n dX35_sizeFrom_21 rfl rfl ?_
      refine w_iload_n dX35_sizeFrom_22 rfl rfl ?_
      obtain ⟨_, b7, hf⟩ := Option.bind_eq_some_iff.mp hf
      refine x_cnI hf (e_stV (Yc := YX35_hasGlue) (ci := 34) (av := [.int p0]) (st := []) dX35_sizeFrom_23 q5289 mX35_hasGlue rfl (k_ok_some b7).1 (k_ok_some b7).2) mX35_hasGlue.2.2.1 mX35_hasGlue.2.2.2.2.1 (Nat.le_of_ble_eq_true rfl) (Nat.le_of_ble_eq_true rfl) (fun q hq => pX35_hasGlue (by omega) hq) (fun q8 hf => ?_)
      refine w_if_eq 40 dX35_sizeFrom_26 (by decide) (fun c9 => ?_) (fun c9 => ?_)
      · replace hf := (if_pos (show q8.1 = 0 from c9)).symm.trans hf
        exact (pX35_sizeFrom_b40 hd hdr hsE hsN hf).to ⟨rfl, rfl, rfl, rfl, rfl, rfl, trivial⟩
      · replace hf := (if_neg (show ¬ (q8.1 = 0) from c9)).symm.trans hf
        exact (pX35_sizeFrom_b29 hd hdr hsE hsN hf).to ⟨rfl, rfl, rfl, rfl, trivial⟩
abbrev cX35_dimension : ByteArray := prog_37_method_96_code
def yX35_dimension : MethodName := ⟨RX35, "dimension", "()I"⟩
def YX35_dimension : eY := (yX35_dimension, cX35_dimension, 1, (Option.some FieldType.int), [])
theorem mX35_dimension : e_mv YX35_dimension RX35 0 := ⟨q5335, qs290, q5336, by decide, by decide +kernel, (e_sig (by decide +kernel))⟩
theorem dX35_dimension_0 : decode cX35_dimension 0 = .ok (.aload_n 0, 1) := dc_42 (by decide +kernel)
theorem dX35_dimension_1 : decode cX35_dimension 1 = .ok (.invokevirtual 660, 3) := dc_182 (a := 2) (b := 148) (n := 660) (by decide +kernel)
theorem dX35_dimension_4 : decode cX35_dimension 4 = .ok (.aload_n 0, 1) := dc_42 (by decide +kernel)
theorem dX35_dimension_5 : decode cX35_dimension 5 = .ok (.aload_n 0, 1) := dc_42 (by decide +kernel)
theorem dX35_dimension_6 : decode cX35_dimension 6 = .ok (.getfield 651, 3) := dc_180 (a := 2) (b := 139) (n := 651) (by decide +kernel)
theorem dX35_dimension_9 : decode cX35_dimension 9 = .ok (.aload_n 0, 1) := dc_42 (by decide +kernel)
theorem dX35_dimension_10 : decode cX35_dimension 10 = .ok (.getfield 654, 3) := dc_180 (a := 2) (b := 142) (n := 654) (by decide +kernel)
theorem dX35_dimension_13 : decode cX35_dimension 13 = .ok (.iconst 0, 1) := dc_3 (by decide +kernel)
theorem dX35_dimension_14 : decode cX35_dimension 14 = .ok (.invokevirtual 764, 3) := dc_182 (a := 2) (b := 252) (n := 764) (by decide +kernel)
theorem dX35_dimension_17 : decode cX35_dimension 17 = .ok (.ireturn, 1) := dc_172 (by decide +kernel)
theorem GX35_651 {w : eW} {d : Nat} {Y : eY} {pc : Nat} {ls : eL} {st : List Value} {h : eH} {Q : eO → eH → Prop} {a : Nat} {x : Int32} (hf : g_I 34 h a 121 = some x) (hd : decode Y.2.1 pc = .ok (.getfield 651, 3)) (hY : Y.1.cls = RX35) (kk : wp w d Y (pc + 3) ls (.int x :: st) h Q) : wp w d Y pc ls (.ref a :: st) h Q := x_gI (ci := 34) (k := 121) hf hd rfl (by decide) (by rw [hY]; exact q4622) kk
theorem GX35_654 {w : eW} {d : Nat} {Y : eY} {pc : Nat} {ls : eL} {st : List Value} {h : eH} {Q : eO → eH → Prop} {a : Nat} {x : Int32} (hf : g_I 34 h a 122 = some x) (hd : decode Y.2.1 pc = .ok (.getfield 654, 3)) (hY : Y.1.cls = RX35) (kk : wp w d Y (pc + 3) ls (.int x :: st) h Q) : wp w d Y pc ls (.ref a :: st) h Q := x_gI (ci := 34) (k := 122) hf hd rfl (by decide) (by rw [hY]; exact q4623) kk
def fX35_dimension (N : Nat) (sE : Nat → Int32 → eH → Option (Unit × eH)) (sN : Nat → eH → Option (Int32 × eH)) (this : Nat) (h : eH) : Option (Int32 × eH) :=
  (k_ok 34 h this).bind fun _ =>
  (fX35_signs N sE this h).bind fun q2 =>
  (g_I 34 q2.2 this 121).bind fun x3 =>
  (g_I 34 q2.2 this 122).bind fun x5 =>
  (k_ok 34 q2.2 this).bind fun _ =>
  (fX35_sizeFrom N sE sN this x3 x5 (0 : Int32) q2.2).bind fun q8 =>
  some (q8.1, q8.2)
theorem pX35_dimension {w : eW} {d : Nat} {dr : Nat} (hd : dr + 10 ≤ d) (hdr : 12 ≤ dr) {N : Nat} {sE : Nat → Int32 → eH → Option (Unit × eH)} {sN : Nat → eH → Option (Int32 × eH)} (hsE : ∀ a t0 h q, sE a t0 h = some q → wm w dr YX35_expand [.ref a, .int t0] h (e_is (e_rn c_V q))) (hsN : ∀ a h q, sN a h = some q → wm w dr YX35_number [.ref a] h (e_is (e_rn c_I q))) {this : Nat} {h : eH} {q} (hf : fX35_dimension N sE sN this h = some q) : wm w d YX35_dimension [.ref this] h (e_is (e_rn c_I q)) := by
  obtain ⟨d, rfl⟩ : ∃ e, d = e + 1 := ⟨d - 1, by omega⟩
  show wp w (d + 1) YX35_dimension 0 [some (.ref this)] [] h _
  unfold fX35_dimension at hf
  refine w_aload_n dX35_dimension_0 rfl rfl ?_
  obtain ⟨_, b1, hf⟩ := Option.bind_eq_some_iff.mp hf
  refine x_cnV hf (e_stV (Yc := YX35_signs) (ci := 34) (av := []) (st := []) dX35_dimension_1 q5225 mX35_signs rfl (k_ok_some b1).1 (k_ok_some b1).2) mX35_signs.2.2.1 mX35_signs.2.2.2.2.1 (Nat.le_of_ble_eq_true rfl) (Nat.le_of_ble_eq_true rfl) (fun q hq => pX35_signs (by omega) hdr hsE hq) (fun q2 hf => ?_)
  refine w_aload_n dX35_dimension_4 rfl rfl ?_
  refine w_aload_n dX35_dimension_5 rfl rfl ?_
  obtain ⟨x3, b4, hf⟩ := Option.bind_eq_some_iff.mp hf
  refine GX35_651 b4 dX35_dimension_6 rfl ?_
  refine w_aload_n dX35_dimension_9 rfl rfl ?_
  obtain ⟨x5, b6, hf⟩ := Option.bind_eq_some_iff.mp hf
  refine GX35_654 b6 dX35_dimension_10 rfl ?_
  refine w_iconst dX35_dimension_13 (v := 0) (by decide) ?_
  obtain ⟨_, b7, hf⟩ := Option.bind_eq_some_iff.mp hf
  refine x_cnI hf (e_stV (Yc := YX35_sizeFrom) (ci := 34) (av := [.int x3, .int x5, .int (0 : Int32)]) (st := []) dX35_dimension_14 q5337 mX35_sizeFrom rfl (k_ok_some b7).1 (k_ok_some b7).2) mX35_sizeFrom.2.2.1 mX35_sizeFrom.2.2.2.2.1 (Nat.le_of_ble_eq_true rfl) (Nat.le_of_ble_eq_true rfl) (fun q hq => pX35_sizeFrom (by omega) hdr hsE hsN hq) (fun q8 hf => ?_)
  cases hf
  exact w_iret dX35_dimension_17 rfl rfl rfl
abbrev cX35_compareSizes : ByteArray := prog_37_method_61_code
def yX35_compareSizes : MethodName := ⟨RX35, "compareSizes", "()Z"⟩
def YX35_compareSizes : eY := (yX35_compareSizes, cX35_compareSizes, 6, (Option.some FieldType.boolean), [])
theorem mX35_compareSizes : e_mv YX35_compareSizes RX35 0 := ⟨q5331, qs289, q5332, by decide, by decide +kernel, (e_sig (by decide +kernel))⟩
theorem dX35_compareSizes_0 : decode cX35_compareSizes 0 = .ok (.aload_n 0, 1) := dc_42 (by decide +kernel)
theorem dX35_compareSizes_1 : decode cX35_compareSizes 1 = .ok (.invokevirtual 614, 3) := dc_182 (a := 2) (b := 102) (n := 614) (by decide +kernel)
theorem dX35_compareSizes_4 : decode cX35_compareSizes 4 = .ok (.istore_n 1, 1) := dc_60 (by decide +kernel)
theorem dX35_compareSizes_5 : decode cX35_compareSizes 5 = .ok (.aload_n 0, 1) := dc_42 (by decide +kernel)
theorem dX35_compareSizes_6 : decode cX35_compareSizes 6 = .ok (.invokevirtual 607, 3) := dc_182 (a := 2) (b := 95) (n := 607) (by decide +kernel)
theorem dX35_compareSizes_9 : decode cX35_compareSizes 9 = .ok (.istore_n 2, 1) := dc_61 (by decide +kernel)
theorem dX35_compareSizes_10 : decode cX35_compareSizes 10 = .ok (.iload_n 2, 1) := dc_28 (by decide +kernel)
theorem dX35_compareSizes_11 : decode cX35_compareSizes 11 = .ok (.bipush 12, 2) := dc_16 (a := 12) (v := 12) (by decide +kernel)
theorem dX35_compareSizes_13 : decode cX35_compareSizes 13 = .ok (.bipush 60, 2) := dc_16 (a := 60) (v := 60) (by decide +kernel)
theorem dX35_compareSizes_15 : decode cX35_compareSizes 15 = .ok (.invokestatic 610, 3) := dc_184 (a := 2) (b := 98) (n := 610) (by decide +kernel)
theorem dX35_compareSizes_18 : decode cX35_compareSizes 18 = .ok (.istore_n 3, 1) := dc_62 (by decide +kernel)
theorem dX35_compareSizes_19 : decode cX35_compareSizes 19 = .ok (.iload_n 2, 1) := dc_28 (by decide +kernel)
theorem dX35_compareSizes_20 : decode cX35_compareSizes 20 = .ok (.bipush 12, 2) := dc_16 (a := 12) (v := 12) (by decide +kernel)
theorem dX35_compareSizes_22 : decode cX35_compareSizes 22 = .ok (.bipush 62, 2) := dc_16 (a := 62) (v := 62) (by decide +kernel)
theorem dX35_compareSizes_24 : decode cX35_compareSizes 24 = .ok (.invokestatic 610, 3) := dc_184 (a := 2) (b := 98) (n := 610) (by decide +kernel)
theorem dX35_compareSizes_27 : decode cX35_compareSizes 27 = .ok (.istore 4, 2) := dc_54 (a := 4) (by decide +kernel)
theorem dX35_compareSizes_29 : decode cX35_compareSizes 29 = .ok (.aload_n 0, 1) := dc_42 (by decide +kernel)
theorem dX35_compareSizes_30 : decode cX35_compareSizes 30 = .ok (.getfield 321, 3) := dc_180 (a := 1) (b := 65) (n := 321) (by decide +kernel)
theorem dX35_compareSizes_33 : decode cX35_compareSizes 33 = .ok (.ifCond .ne 29, 3) := dc_154 (a := 0) (b := 29) (v := 29) (by decide +kernel)
theorem dX35_compareSizes_36 : decode cX35_compareSizes 36 = .ok (.iload_n 3, 1) := dc_29 (by decide +kernel)
theorem dX35_compareSizes_37 : decode cX35_compareSizes 37 = .ok (.ifCond .ne 25, 3) := dc_154 (a := 0) (b := 25) (v := 25) (by decide +kernel)
theorem dX35_compareSizes_40 : decode cX35_compareSizes 40 = .ok (.iload 4, 2) := dc_21 (a := 4) (by decide +kernel)
theorem dX35_compareSizes_42 : decode cX35_compareSizes 42 = .ok (.ifCond .ne 20, 3) := dc_154 (a := 0) (b := 20) (v := 20) (by decide +kernel)
theorem dX35_compareSizes_45 : decode cX35_compareSizes 45 = .ok (.iload_n 2, 1) := dc_28 (by decide +kernel)
theorem dX35_compareSizes_46 : decode cX35_compareSizes 46 = .ok (.bipush 12, 2) := dc_16 (a := 12) (v := 12) (by decide +kernel)
theorem dX35_compareSizes_48 : decode cX35_compareSizes 48 = .ok (.bipush 61, 2) := dc_16 (a := 61) (v := 61) (by decide +kernel)
theorem dX35_compareSizes_50 : decode cX35_compareSizes 50 = .ok (.invokestatic 610, 3) := dc_184 (a := 2) (b := 98) (n := 610) (by decide +kernel)
theorem dX35_compareSizes_53 : decode cX35_compareSizes 53 = .ok (.ifCond .ne 9, 3) := dc_154 (a := 0) (b := 9) (v := 9) (by decide +kernel)
theorem dX35_compareSizes_56 : decode cX35_compareSizes 56 = .ok (.aload_n 0, 1) := dc_42 (by decide +kernel)
theorem dX35_compareSizes_57 : decode cX35_compareSizes 57 = .ok (.bipush 6, 2) := dc_16 (a := 6) (v := 6) (by decide +kernel)
theorem dX35_compareSizes_59 : decode cX35_compareSizes 59 = .ok (.invokevirtual 428, 3) := dc_182 (a := 1) (b := 172) (n := 428) (by decide +kernel)
theorem dX35_compareSizes_62 : decode cX35_compareSizes 62 = .ok (.aload_n 0, 1) := dc_42 (by decide +kernel)
theorem dX35_compareSizes_63 : decode cX35_compareSizes 63 = .ok (.invokevirtual 614, 3) := dc_182 (a := 2) (b := 102) (n := 614) (by decide +kernel)
theorem dX35_compareSizes_66 : decode cX35_compareSizes 66 = .ok (.istore 5, 2) := dc_54 (a := 5) (by decide +kernel)
theorem dX35_compareSizes_68 : decode cX35_compareSizes 68 = .ok (.aload_n 0, 1) := dc_42 (by decide +kernel)
theorem dX35_compareSizes_69 : decode cX35_compareSizes 69 = .ok (.getfield 321, 3) := dc_180 (a := 1) (b := 65) (n := 321) (by decide +kernel)
theorem dX35_compareSizes_72 : decode cX35_compareSizes 72 = .ok (.ifCond .ne 40, 3) := dc_154 (a := 0) (b := 40) (v := 40) (by decide +kernel)
theorem dX35_compareSizes_75 : decode cX35_compareSizes 75 = .ok (.iload_n 3, 1) := dc_29 (by decide +kernel)
theorem dX35_compareSizes_76 : decode cX35_compareSizes 76 = .ok (.ifCond .eq 12, 3) := dc_153 (a := 0) (b := 12) (v := 12) (by decide +kernel)
theorem dX35_compareSizes_79 : decode cX35_compareSizes 79 = .ok (.iload_n 1, 1) := dc_27 (by decide +kernel)
theorem dX35_compareSizes_80 : decode cX35_compareSizes 80 = .ok (.iload 5, 2) := dc_21 (a := 5) (by decide +kernel)
theorem dX35_compareSizes_82 : decode cX35_compareSizes 82 = .ok (.if_icmp .ge 30, 3) := dc_162 (a := 0) (b := 30) (v := 30) (by decide +kernel)
theorem dX35_compareSizes_85 : decode cX35_compareSizes 85 = .ok (.goto 23, 3) := dc_167 (a := 0) (b := 23) (v := 23) (by decide +kernel)
theorem dX35_compareSizes_88 : decode cX35_compareSizes 88 = .ok (.iload 4, 2) := dc_21 (a := 4) (by decide +kernel)
theorem dX35_compareSizes_90 : decode cX35_compareSizes 90 = .ok (.ifCond .eq 12, 3) := dc_153 (a := 0) (b := 12) (v := 12) (by decide +kernel)
theorem dX35_compareSizes_93 : decode cX35_compareSizes 93 = .ok (.iload_n 1, 1) := dc_27 (by decide +kernel)
theorem dX35_compareSizes_94 : decode cX35_compareSizes 94 = .ok (.iload 5, 2) := dc_21 (a := 5) (by decide +kernel)
theorem dX35_compareSizes_96 : decode cX35_compareSizes 96 = .ok (.if_icmp .le 16, 3) := dc_164 (a := 0) (b := 16) (v := 16) (by decide +kernel)
theorem dX35_compareSizes_99 : decode cX35_compareSizes 99 = .ok (.goto 9, 3) := dc_167 (a := 0) (b := 9) (v := 9) (by decide +kernel)
theorem dX35_compareSizes_102 : decode cX35_compareSizes 102 = .ok (.iload_n 1, 1) := dc_27 (by decide +kernel)
theorem dX35_compareSizes_103 : decode cX35_compareSizes 103 = .ok (.iload 5, 2) := dc_21 (a := 5) (by decide +kernel)
theorem dX35_compareSizes_105 : decode cX35_compareSizes 105 = .ok (.if_icmp .ne 7, 3) := dc_160 (a := 0) (b := 7) (v := 7) (by decide +kernel)
theorem dX35_compareSizes_108 : decode cX35_compareSizes 108 = .ok (.iconst 1, 1) := dc_4 (by decide +kernel)
theorem dX35_compareSizes_109 : decode cX35_compareSizes 109 = .ok (.goto 4, 3) := dc_167 (a := 0) (b := 4) (v := 4) (by decide +kernel)
theorem dX35_compareSizes_112 : decode cX35_compareSizes 112 = .ok (.iconst 0, 1) := dc_3 (by decide +kernel)
theorem dX35_compareSizes_113 : decode cX35_compareSizes 113 = .ok (.ireturn, 1) := dc_172 (by decide +kernel)
def fX35_compareSizes_b113 (N : Nat) (sE : Nat → Int32 → eH → Option (Unit × eH)) (sN : Nat → eH → Option (Int32 × eH)) (s0 : Int32) (h : eH) : Option (Int32 × eH) :=
  z_r s0 (s0, h)
theorem pX35_compareSizes_b113 {w : eW} {d : Nat} {dr : Nat} (hd : dr + 11 ≤ d + 1) (hdr : 12 ≤ dr) {N : Nat} {sE : Nat → Int32 → eH → Option (Unit × eH)} {sN : Nat → eH → Option (Int32 × eH)} (hsE : ∀ a t0 h q, sE a t0 h = some q → wm w dr YX35_expand [.ref a, .int t0] h (e_is (e_rn c_V q))) (hsN : ∀ a h q, sN a h = some q → wm w dr YX35_number [.ref a] h (e_is (e_rn c_I q))) {s0 : Int32} {h : eH} {q} (hf : fX35_compareSizes_b113 N sE sN s0 h = some q) : wp w (d + 1) YX35_compareSizes 113 [none, none, none, none, none, none] [.int s0] h (e_is (e_rn c_I q)) := by
  unfold fX35_compareSizes_b113 at hf
  obtain ⟨b1, rfl⟩ := z_r_some hf
  exact w_iret dX35_compareSizes_113 rfl b1 rfl
def fX35_compareSizes_b108 (N : Nat) (sE : Nat → Int32 → eH → Option (Unit × eH)) (sN : Nat → eH → Option (Int32 × eH))  (h : eH) : Option (Int32 × eH) :=
  fX35_compareSizes_b113 N sE sN (1 : Int32) h
theorem pX35_compareSizes_b108 {w : eW} {d : Nat} {dr : Nat} (hd : dr + 11 ≤ d + 1) (hdr : 12 ≤ dr) {N : Nat} {sE : Nat → Int32 → eH → Option (Unit × eH)} {sN : Nat → eH → Option (Int32 × eH)} (hsE : ∀ a t0 h q, sE a t0 h = some q → wm w dr YX35_expand [.ref a, .int t0] h (e_is (e_rn c_V q))) (hsN : ∀ a h q, sN a h = some q → wm w dr YX35_number [.ref a] h (e_is (e_rn c_I q)))  {h : eH} {q} (hf : fX35_compareSizes_b108 N sE sN h = some q) : wp w (d + 1) YX35_compareSizes 108 [none, none, none, none, none, none] [] h (e_is (e_rn c_I q)) := by
  unfold fX35_compareSizes_b108 at hf
  refine w_iconst dX35_compareSizes_108 (v := 1) (by decide) ?_
  refine w_goto 113 dX35_compareSizes_109 (by decide) ?_
  exact (pX35_compareSizes_b113 hd hdr hsE hsN hf).to trivial
def fX35_compareSizes_b112 (N : Nat) (sE : Nat → Int32 → eH → Option (Unit × eH)) (sN : Nat → eH → Option (Int32 × eH))  (h : eH) : Option (Int32 × eH) :=
  fX35_compareSizes_b113 N sE sN (0 : Int32) h
theorem pX35_compareSizes_b112 {w : eW} {d : Nat} {dr : Nat} (hd : dr + 11 ≤ d + 1) (hdr : 12 ≤ dr) {N : Nat} {sE : Nat → Int32 → eH → Option (Unit × eH)} {sN : Nat → eH → Option (Int32 × eH)} (hsE : ∀ a t0 h q, sE a t0 h = some q → wm w dr YX35_expand [.ref a, .int t0] h (e_is (e_rn c_V q))) (hsN : ∀ a h q, sN a h = some q → wm w dr YX35_number [.ref a] h (e_is (e_rn c_I q)))  {h : eH} {q} (hf : fX35_compareSizes_b112 N sE sN h = some q) : wp w (d + 1) YX35_compareSizes 112 [none, none, none, none, none, none] [] h (e_is (e_rn c_I q)) := by
  unfold fX35_compareSizes_b112 at hf
  refine w_iconst dX35_compareSizes_112 (v := 0) (by decide) ?_
  exact (pX35_compareSizes_b113 hd hdr hsE hsN hf).to trivial
def fX35_compareSizes_b62 (N : Nat) (sE : Nat → Int32 → eH → Option (Unit × eH)) (sN : Nat → eH → Option (Int32 × eH)) (l0 : Nat) (l1 : Int32) (l3 : Int32) (l4 : Int32) (h : eH) : Option (Int32 × eH) :=
  (k_ok 34 h l0).bind fun _ =>
  (fX35_dimension N sE sN l0 h).bind fun q2 =>
  (g_I 34 q2.2 l0 46).bind fun x3 =>
  if ¬ x3 = 0 then
    fX35_compareSizes_b112 N sE sN q2.2
  else
    if l3 = 0 then
      if l4 = 0 then
        if ¬ l1 = q2.1 then
          fX35_compareSizes_b112 N sE sN q2.2
        else
          fX35_compareSizes_b108 N sE sN q2.2
      else
        if l1 ≤ q2.1 then
          fX35_compareSizes_b112 N sE sN q2.2
        else
          fX35_compareSizes_b108 N sE sN q2.2
    else
      if q2.1 ≤ l1 then
        fX35_compareSizes_b112 N sE sN q2.2
      else
        fX35_compareSizes_b108 N sE sN q2.2
theorem pX35_compareSizes_b62 {w : eW} {d : Nat} {dr : Nat} (hd : dr + 11 ≤ d + 1) (hdr : 12 ≤ dr) {N : Nat} {sE : Nat → Int32 → eH → Option (Unit × eH)} {sN : Nat → eH → Option (Int32 × eH)} (hsE : ∀ a t0 h q, sE a t0 h = some q → wm w dr YX35_expand [.ref a, .int t0] h (e_is (e_rn c_V q))) (hsN : ∀ a h q, sN a h = some q → wm w dr YX35_number [.ref a] h (e_is (e_rn c_I q))) {l0 : Nat} {l1 : Int32} {l3 : Int32} {l4 : Int32} {h : eH} {q} (hf : fX35_compareSizes_b62 N sE sN l0 l1 l3 l4 h = some q) : wp w (d + 1) YX35_compareSizes 62 [some (.ref l0), some (.int l1), none, some (.int l3), some (.int l4), none] [] h (e_is (e_rn c_I q)) := by
  unfold fX35_compareSizes_b62 at hf
  refine w_aload_n dX35_compareSizes_62 rfl rfl ?_
  obtain ⟨_, b1, hf⟩ := Option.bind_eq_some_iff.mp hf
  refine x_cnI hf (e_stV (Yc := YX35_dimension) (ci := 34) (av := []) (st := []) dX35_compareSizes_63 q5333 mX35_dimension rfl (k_ok_some b1).1 (k_ok_some b1).2) mX35_dimension.2.2.1 mX35_dimension.2.2.2.2.1 (Nat.le_of_ble_eq_true rfl) (Nat.le_of_ble_eq_true rfl) (fun q hq => pX35_dimension (by omega) hdr hsE hsN hq) (fun q2 hf => ?_)
  refine w_istore dX35_compareSizes_66 (by decide) (ls' := [some (.ref l0), some (.int l1), none, some (.int l3), some (.int l4), some (.int q2.1)]) rfl ?_
  refine w_aload_n dX35_compareSizes_68 rfl rfl ?_
  obtain ⟨x3, b4, hf⟩ := Option.bind_eq_some_iff.mp hf
  refine GX35_321 b4 dX35_compareSizes_69 rfl ?_
  refine w_if_ne 112 dX35_compareSizes_72 (by decide) (fun c5 => ?_) (fun c5 => ?_)
  · replace hf := (if_pos (show ¬ x3 = 0 from c5)).symm.trans hf
    exact (pX35_compareSizes_b112 hd hdr hsE hsN hf).to trivial
  · replace hf := (if_neg (show ¬ (¬ x3 = 0) from (fun z => z c5))).symm.trans hf
    refine w_iload_n dX35_compareSizes_75 rfl rfl ?_
    refine w_if_eq 88 dX35_compareSizes_76 (by decide) (fun c6 => ?_) (fun c6 => ?_)
    · replace hf := (if_pos (show l3 = 0 from c6)).symm.trans hf
      refine w_iload dX35_compareSizes_88 rfl ?_
      refine w_if_eq 102 dX35_compareSizes_90 (by decide) (fun c7 => ?_) (fun c7 => ?_)
      · replace hf := (if_pos (show l4 = 0 from c7)).symm.trans hf
        refine w_iload_n dX35_compareSizes_102 rfl rfl ?_
        refine w_iload dX35_compareSizes_103 rfl ?_
        refine w_icmp_ne 112 dX35_compareSizes_105 (by decide) (fun c8 => ?_) (fun c8 => ?_)
        · replace hf := (if_pos (show ¬ l1 = q2.1 from c8)).symm.trans hf
          exact (pX35_compareSizes_b112 hd hdr hsE hsN hf).to trivial
        · replace hf := (if_neg (show ¬ (¬ l1 = q2.1) from (fun z => z c8))).symm.trans hf
          exact (pX35_compareSizes_b108 hd hdr hsE hsN hf).to trivial
      · replace hf := (if_neg (show ¬ (l4 = 0) from c7)).symm.trans hf
        refine w_iload_n dX35_compareSizes_93 rfl rfl ?_
        refine w_iload dX35_compareSizes_94 rfl ?_
        refine w_icmp_le 112 dX35_compareSizes_96 (by decide) (fun c9 => ?_) (fun c9 => ?_)
        · replace hf := (if_pos (show l1 ≤ q2.1 from c9)).symm.trans hf
          exact (pX35_compareSizes_b112 hd hdr hsE hsN hf).to trivial
        · replace hf := (if_neg (show ¬ (l1 ≤ q2.1) from c9)).symm.trans hf
          refine w_goto 108 dX35_compareSizes_99 (by decide) ?_
          exact (pX35_compareSizes_b108 hd hdr hsE hsN hf).to trivial
    · replace hf := (if_neg (show ¬ (l3 = 0) from c6)).symm.trans hf
      refine w_iload_n dX35_compareSizes_79 rfl rfl ?_
      refine w_iload dX35_compareSizes_80 rfl ?_
      refine w_icmp_ge 112 dX35_compareSizes_82 (by decide) (fun c10 => ?_) (fun c10 => ?_)
      · replace hf := (if_pos (show q2.1 ≤ l1 from c10)).symm.trans hf
        exact (pX35_compareSizes_b112 hd hdr hsE hsN hf).to trivial
      · replace hf := (if_neg (show ¬ (q2.1 ≤ l1) from c10)).symm.trans hf
        refine w_goto 108 dX35_compareSizes_85 (by decide) ?_
        exact (pX35_compareSizes_b108 hd hdr hsE hsN hf).to trivial
def fX35_compareSizes (N : Nat) (sE : Nat → Int32 → eH → Option (Unit × eH)) (sN : Nat → eH → Option (Int32 × eH)) (this : Nat) (h : eH) : Option (Int32 × eH) :=
  (k_ok 34 h this).bind fun _ =>
  (fX35_dimension N sE sN this h).bind fun q2 =>
  (k_ok 34 q2.2 this).bind fun _ =>
  (fX35_needExpandedNoSpace N sE this q2.2).bind fun q4 =>
  (fX35_is q4.1 (12 : Int32) (60 : Int32) q4.2).bind fun q5 =>
  (fX35_is q4.1 (12 : Int32) (62 : Int32) q5.2).bind fun q6 =>
  (g_I 34 q6.2 this 46).bind fun x7 =>
  if ¬ x7 = 0 then
    fX35_compareSizes_b62 N sE sN this q2.1 q5.1 q6.1 q6.2
  else
    if ¬ q5.1 = 0 then
      fX35_compareSizes_b62 N sE sN this q2.1 q5.1 q6.1 q6.2
    else
      if ¬ q6.1 = 0 then
        fX35_compareSizes_b62 N sE sN this q2.1 q5.1 q6.1 q6.2
      else
        (fX35_is q4.1 (12 : Int32) (61 : Int32) q6.2).bind fun q12 =>
        if ¬ q12.1 = 0 then
          fX35_compareSizes_b62 N sE sN this q2.1 q5.1 q6.1 q12.2
        else
          (k_ok 34 q12.2 this).bind fun _ =>
          (fX35_fail this (6 : Int32) q12.2).bind fun q15 =>
          fX35_compareSizes_b62 N sE sN this q2.1 q5.1 q6.1 q15.2
theorem pX35_compareSizes {w : eW} {d : Nat} {dr : Nat} (hd : dr + 11 ≤ d) (hdr : 12 ≤ dr) {N : Nat} {sE : Nat → Int32 → eH → Option (Unit × eH)} {sN : Nat → eH → Option (Int32 × eH)} (hsE : ∀ a t0 h q, sE a t0 h = some q → wm w dr YX35_expand [.ref a, .int t0] h (e_is (e_rn c_V q))) (hsN : ∀ a h q, sN a h = some q → wm w dr YX35_number [.ref a] h (e_is (e_rn c_I q))) {this : Nat} {h : eH} {q} (hf : fX35_compareSizes N sE sN this h = some q) : wm w d YX35_compareSizes [.ref this] h (e_is (e_rn c_I q)) := by
  obtain ⟨d, rfl⟩ : ∃ e, d = e + 1 := ⟨d - 1, by omega⟩
  show wp w (d + 1) YX35_compareSizes 0 [some (.ref this), none, none, none, none, none] [] h _
  unfold fX35_compareSizes at hf
  refine w_aload_n dX35_compareSizes_0 rfl rfl ?_
  obtain ⟨_, b1, hf⟩ := Option.bind_eq_some_iff.mp hf
  refine x_cnI hf (e_stV (Yc := YX35_dimension) (ci := 34) (av := []) (st := []) dX35_compareSizes_1 q5333 mX35_dimension rfl (k_ok_some b1).1 (k_ok_some b1).2) mX35_dimension.2.2.1 mX35_dimension.2.2.2.2.1 (Nat.le_of_ble_eq_true rfl) (Nat.le_of_ble_eq_true rfl) (fun q hq => pX35_dimension (by omega) hdr hsE hsN hq) (fun q2 hf => ?_)
  refine w_istore_n dX35_compareSizes_4 rfl (by decide) (ls' := [some (.ref this), some (.int q2.1), none, none, none, none]) rfl ?_
  refine w_aload_n dX35_compareSizes_5 rfl rfl ?_
  obtain ⟨_, b3, hf⟩ := Option.bind_eq_some_iff.mp hf
  refine x_cnI hf (e_stV (Yc := YX35_needExpandedNoSpace) (ci := 34) (av := []) (st := []) dX35_compareSizes_6 q5365 mX35_needExpandedNoSpace rfl (k_ok_some b3).1 (k_ok_some b3).2) mX35_needExpandedNoSpace.2.2.1 mX35_needExpandedNoSpace.2.2.2.2.1 (Nat.le_of_ble_eq_true rfl) (Nat.le_of_ble_eq_true rfl) (fun q hq => pX35_needExpandedNoSpace (by omega) hdr hsE hq) (fun q4 hf => ?_)
  refine w_istore_n dX35_compareSizes_9 rfl (by decide) (ls' := [some (.ref this), some (.int q2.1), some (.int q4.1), none, none, none]) rfl ?_
  refine w_iload_n dX35_compareSizes_10 rfl rfl ?_
  refine w_bipush dX35_compareSizes_11 (v := 12) (by decide) ?_
  refine w_bipush dX35_compareSizes_13 (v := 60) (by decide) ?_
  refine x_cnI hf (e_stS (Yc := YX35_is) (av := [.int q4.1, .int (12 : Int32), .int (60 : Int32)]) (st := []) dX35_compareSizes_15 q5229 mX35_is) mX35_is.2.2.1 mX35_is.2.2.2.2.1 (Nat.le_of_ble_eq_true rfl) (Nat.le_of_ble_eq_true rfl) (fun q hq => pX35_is (by omega) hq) (fun q5 hf => ?_)
  refine w_istore_n dX35_compareSizes_18 rfl (by decide) (ls' := [some (.ref this), some (.int q2.1), some (.int q4.1), some (.int q5.1), none, none]) rfl ?_
  refine w_iload_n dX35_compareSizes_19 rfl rfl ?_
  refine w_bipush dX35_compareSizes_20 (v := 12) (by decide) ?_
  refine w_bipush dX35_compareSizes_22 (v := 62) (by decide) ?_
  refine x_cnI hf (e_stS (Yc := YX35_is) (av := [.int q4.1, .int (12 : Int32), .int (62 : Int32)]) (st := []) dX35_compareSizes_24 q5229 mX35_is) mX35_is.2.2.1 mX35_is.2.2.2.2.1 (Nat.le_of_ble_eq_true rfl) (Nat.le_of_ble_eq_true rfl) (fun q hq => pX35_is (by omega) hq) (fun q6 hf => ?_)
  refine w_istore dX35_compareSizes_27 (by decide) (ls' := [some (.ref this), some (.int q2.1), some (.int q4.1), some (.int q5.1), some (.int q6.1), none]) rfl ?_
  refine w_aload_n dX35_compareSizes_29 rfl rfl ?_
  obtain ⟨x7, b8, hf⟩ := Option.bind_eq_some_iff.mp hf
  refine GX35_321 b8 dX35_compareSizes_30 rfl ?_
  refine w_if_ne 62 dX35_compareSizes_33 (by decide) (fun c9 => ?_) (fun c9 => ?_)
  · replace hf := (if_pos (show ¬ x7 = 0 from c9)).symm.trans hf
    exact (pX35_compareSizes_b62 hd hdr hsE hsN hf).to ⟨rfl, rfl, rfl, rfl, trivial⟩
  · replace hf := (if_neg (show ¬ (¬ x7 = 0) from (fun z => z c9))).symm.trans hf
    refine w_iload_n dX35_compareSizes_36 rfl rfl ?_
    refine w_if_ne 62 dX35_compareSizes_37 (by decide) (fun c10 => ?_) (fun c10 => ?_)
    · replace hf := (if_pos (show ¬ q5.1 = 0 from c10)).symm.trans hf
      exact (pX35_compareSizes_b62 hd hdr hsE hsN hf).to ⟨rfl, rfl, rfl, rfl, trivial⟩
    · replace hf := (if_neg (show ¬ (¬ q5.1 = 0) from (fun z => z c10))).symm.trans hf
      refine w_iload dX35_compareSizes_40 rfl ?_
      refine w_if_ne 62 dX35_compareSizes_42 (by decide) (fun c11 => ?_) (fun c11 => ?_)
      · replace hf := (if_pos (show ¬ q6.1 = 0 from c11)).symm.trans hf
        exact (pX35_compareSizes_b62 hd hdr hsE hsN hf).to ⟨rfl, rfl, rfl, rfl, trivial⟩
      · replace hf := (if_neg (show ¬ (¬ q6.1 = 0) from (fun z => z c11))).symm.trans hf
        refine w_iload_n dX35_compareSizes_45 rfl rfl ?_
        refine w_bipush dX35_compareSizes_46 (v := 12) (by decide) ?_
        refine w_bipush dX35_compareSizes_48 (v := 61) (by decide) ?_
        refine x_cnI hf (e_stS (Yc := YX35_is) (av := [.int q4.1, .int (12 : Int32), .int (61 : Int32)]) (st := []) dX35_compareSizes_50 q5229 mX35_is) mX35_is.2.2.1 mX35_is.2.2.2.2.1 (Nat.le_of_ble_eq_true rfl) (Nat.le_of_ble_eq_true rfl) (fun q hq => pX35_is (by omega) hq) (fun q12 hf => ?_)
        refine w_if_ne 62 dX35_compareSizes_53 (by decide) (fun c13 => ?_) (fun c13 => ?_)
        · replace hf := (if_pos (show ¬ q12.1 = 0 from c13)).symm.trans hf
          exact (pX35_compareSizes_b62 hd hdr hsE hsN hf).to ⟨rfl, rfl, rfl, rfl, trivial⟩
        · replace hf := (if_neg (show ¬ (¬ q12.1 = 0) from (fun z => z c13))).symm.trans hf
          refine w_aload_n dX35_compareSizes_56 rfl rfl ?_
          refine w_bipush dX35_compareSizes_57 (v := 6) (by decide) ?_
          obtain ⟨_, b14, hf⟩ := Option.bind_eq_some_iff.mp hf
          refine x_cnV hf (e_stV (Yc := YX35_fail) (ci := 34) (av := [.int (6 : Int32)]) (st := []) dX35_compareSizes_59 q5109 mX35_fail rfl (k_ok_some b14).1 (k_ok_some b14).2) mX35_fail.2.2.1 mX35_fail.2.2.2.2.1 (Nat.le_of_ble_eq_true rfl) (Nat.le_of_ble_eq_true rfl) (fun q hq => pX35_fail (by omega) hq) (fun q15 hf => ?_)
          exact (pX35_compareSizes_b62 hd hdr hsE hsN hf).to ⟨rfl, rfl, rfl, rfl, trivial⟩
abbrev cX35_shape : ByteArray := prog_37_method_58_code
def yX35_shape : MethodName := ⟨RX35, "shape", "(IZ)I"⟩
def YX35_shape : eY := (yX35_shape, cX35_shape, 4, (Option.some FieldType.int), [])
theorem mX35_shape : e_mv YX35_shape RX35 2 := ⟨q5423, qs302, q5424, by decide, by decide +kernel, (e_sig (by decide +kernel))⟩
theorem dX35_shape_0 : decode cX35_shape 0 = .ok (.aload_n 0, 1) := dc_42 (by decide +kernel)
theorem dX35_shape_1 : decode cX35_shape 1 = .ok (.iload_n 1, 1) := dc_27 (by decide +kernel)
theorem dX35_shape_2 : decode cX35_shape 2 = .ok (.invokevirtual 474, 3) := dc_182 (a := 1) (b := 218) (n := 474) (by decide +kernel)
theorem dX35_shape_5 : decode cX35_shape 5 = .ok (.istore_n 3, 1) := dc_62 (by decide +kernel)
theorem dX35_shape_6 : decode cX35_shape 6 = .ok (.iload_n 3, 1) := dc_29 (by decide +kernel)
theorem dX35_shape_7 : decode cX35_shape 7 = .ok (.ldc_w 470, 3) := dc_19 (a := 1) (b := 214) (n := 470) (by decide +kernel)
theorem dX35_shape_10 : decode cX35_shape 10 = .ok (.if_icmp .lt 10, 3) := dc_161 (a := 0) (b := 10) (v := 10) (by decide +kernel)
theorem dX35_shape_13 : decode cX35_shape 13 = .ok (.iload_n 3, 1) := dc_29 (by decide +kernel)
theorem dX35_shape_14 : decode cX35_shape 14 = .ok (.ldc_w 606, 3) := dc_19 (a := 2) (b := 94) (n := 606) (by decide +kernel)
theorem dX35_shape_17 : decode cX35_shape 17 = .ok (.if_icmp .lt 16, 3) := dc_161 (a := 0) (b := 16) (v := 16) (by decide +kernel)
theorem dX35_shape_20 : decode cX35_shape 20 = .ok (.iload_n 2, 1) := dc_28 (by decide +kernel)
theorem dX35_shape_21 : decode cX35_shape 21 = .ok (.ifCond .eq 8, 3) := dc_153 (a := 0) (b := 8) (v := 8) (by decide +kernel)
theorem dX35_shape_24 : decode cX35_shape 24 = .ok (.bipush 16, 2) := dc_16 (a := 16) (v := 16) (by decide +kernel)
theorem dX35_shape_26 : decode cX35_shape 26 = .ok (.goto 6, 3) := dc_167 (a := 0) (b := 6) (v := 6) (by decide +kernel)
theorem dX35_shape_29 : decode cX35_shape 29 = .ok (.sipush 256, 3) := dc_17 (a := 1) (b := 0) (v := 256) (by decide +kernel)
theorem dX35_shape_32 : decode cX35_shape 32 = .ok (.ireturn, 1) := dc_172 (by decide +kernel)
theorem dX35_shape_33 : decode cX35_shape 33 = .ok (.iload_n 2, 1) := dc_28 (by decide +kernel)
theorem dX35_shape_34 : decode cX35_shape 34 = .ok (.ifCond .eq 15, 3) := dc_153 (a := 0) (b := 15) (v := 15) (by decide +kernel)
theorem dX35_shape_37 : decode cX35_shape 37 = .ok (.iload_n 3, 1) := dc_29 (by decide +kernel)
theorem dX35_shape_38 : decode cX35_shape 38 = .ok (.ldc_w 470, 3) := dc_19 (a := 1) (b := 214) (n := 470) (by decide +kernel)
theorem dX35_shape_41 : decode cX35_shape 41 = .ok (.isub, 1) := dc_100 (by decide +kernel)
theorem dX35_shape_42 : decode cX35_shape 42 = .ok (.sipush 256, 3) := dc_17 (a := 1) (b := 0) (v := 256) (by decide +kernel)
theorem dX35_shape_45 : decode cX35_shape 45 = .ok (.idiv, 1) := dc_108 (by decide +kernel)
theorem dX35_shape_46 : decode cX35_shape 46 = .ok (.goto 12, 3) := dc_167 (a := 0) (b := 12) (v := 12) (by decide +kernel)
theorem dX35_shape_49 : decode cX35_shape 49 = .ok (.iload_n 3, 1) := dc_29 (by decide +kernel)
theorem dX35_shape_50 : decode cX35_shape 50 = .ok (.ldc_w 470, 3) := dc_19 (a := 1) (b := 214) (n := 470) (by decide +kernel)
theorem dX35_shape_53 : decode cX35_shape 53 = .ok (.isub, 1) := dc_100 (by decide +kernel)
theorem dX35_shape_54 : decode cX35_shape 54 = .ok (.sipush 256, 3) := dc_17 (a := 1) (b := 0) (v := 256) (by decide +kernel)
theorem dX35_shape_57 : decode cX35_shape 57 = .ok (.irem, 1) := dc_112 (by decide +kernel)
theorem dX35_shape_58 : decode cX35_shape 58 = .ok (.ireturn, 1) := dc_172 (by decide +kernel)
def fX35_shape_b32 (s0 : Int32) (h : eH) : Option (Int32 × eH) :=
  some (s0, h)
theorem pX35_shape_b32 {w : eW} {d : Nat} (hd : 3 ≤ d + 1) {s0 : Int32} {h : eH} {q} (hf : fX35_shape_b32 s0 h = some q) : wp w (d + 1) YX35_shape 32 [none, none, none, none] [.int s0] h (e_is (e_rn c_I q)) := by
  unfold fX35_shape_b32 at hf
  cases hf
  exact w_iret dX35_shape_32 rfl rfl rfl
def fX35_shape_b20 (l2 : Int32) (h : eH) : Option (Int32 × eH) :=
  if l2 = 0 then
    fX35_shape_b32 (256 : Int32) h
  else
    fX35_shape_b32 (16 : Int32) h
theorem pX35_shape_b20 {w : eW} {d : Nat} (hd : 3 ≤ d + 1) {l2 : Int32} {h : eH} {q} (hf : fX35_shape_b20 l2 h = some q) : wp w (d + 1) YX35_shape 20 [none, none, some (.int l2), none] [] h (e_is (e_rn c_I q)) := by
  unfold fX35_shape_b20 at hf
  refine w_iload_n dX35_shape_20 rfl rfl ?_
  refine w_if_eq 29 dX35_shape_21 (by decide) (fun c1 => ?_) (fun c1 => ?_)
  · replace hf := (if_pos (show l2 = 0 from c1)).symm.trans hf
    refine w_sipush dX35_shape_29 (v := 256) (by decide) ?_
    exact (pX35_shape_b32 hd hf).to trivial
  · replace hf := (if_neg (show ¬ (l2 = 0) from c1)).symm.trans hf
    refine w_bipush dX35_shape_24 (v := 16) (by decide) ?_
    refine w_goto 32 dX35_shape_26 (by decide) ?_
    exact (pX35_shape_b32 hd hf).to trivial
def fX35_shape_b58 (s0 : Int32) (h : eH) : Option (Int32 × eH) :=
  some (s0, h)
theorem pX35_shape_b58 {w : eW} {d : Nat} (hd : 3 ≤ d + 1) {s0 : Int32} {h : eH} {q} (hf : fX35_shape_b58 s0 h = some q) : wp w (d + 1) YX35_shape 58 [none, none, none, none] [.int s0] h (e_is (e_rn c_I q)) := by
  unfold fX35_shape_b58 at hf
  cases hf
  exact w_iret dX35_shape_58 rfl rfl rfl
def fX35_shape (this : Nat) (p0 : Int32) (p1 : Int32) (h : eH) : Option (Int32 × eH) :=
  (k_ok 34 h this).bind fun _ =>
  (fX35_meaning this p0 h).bind fun q2 =>
  if q2.1 < (2000000 : Int32) then
    fX35_shape_b20 p1 q2.2
  else
    if q2.1 < (3000000 : Int32) then
      if p1 = 0 then
        fX35_shape_b58 ((q2.1 - (2000000 : Int32)) - (q2.1 - (2000000 : Int32)) / (256 : Int32) * (256 : Int32)) q2.2
      else
        fX35_shape_b58 ((q2.1 - (2000000 : Int32)) / (256 : Int32)) q2.2
    else
      fX35_shape_b20 p1 q2.2
theorem pX35_shape {w : eW} {d : Nat} (hd : 3 ≤ d) {this : Nat} {p0 : Int32} {p1 : Int32} {h : eH} {q} (hf : fX35_shape this p0 p1 h = some q) : wm w d YX35_shape [.ref this, .int p0, .int p1] h (e_is (e_rn c_I q)) := by
  obtain ⟨d, rfl⟩ : ∃ e, d = e + 1 := ⟨d - 1, by omega⟩
  show wp w (d + 1) YX35_shape 0 [some (.ref this), some (.int p0), some (.int p1), none] [] h _
  unfold fX35_shape at hf
  refine w_aload_n dX35_shape_0 rfl rfl ?_
  refine w_iload_n dX35_shape_1 rfl rfl ?_
  obtain ⟨_, b1, hf⟩ := Option.bind_eq_some_iff.mp hf
  refine x_cnI hf (e_stV (Yc := YX35_meaning) (ci := 34) (av := [.int p0]) (st := []) dX35_shape_2 q5130 mX35_meaning rfl (k_ok_some b1).1 (k_ok_some b1).2) mX35_meaning.2.2.1 mX35_meaning.2.2.2.2.1 (Nat.le_of_ble_eq_true rfl) (Nat.le_of_ble_eq_true rfl) (fun q hq => pX35_meaning (by omega) hq) (fun q2 hf => ?_)
  refine w_istore_n dX35_shape_5 rfl (by decide) (ls' := [some (.ref this), some (.int p0), some (.int p1), some (.int q2.1)]) rfl ?_
  refine w_iload_n dX35_shape_6 rfl rfl ?_
  refine w_ldc_w dX35_shape_7 q5134 ?_
  refine w_icmp_lt 20 dX35_shape_10 (by decide) (fun c3 => ?_) (fun c3 => ?_)
  · replace hf := (if_pos (show q2.1 < (2000000 : Int32) from c3)).symm.trans hf
    exact (pX35_shape_b20 hd hf).to ⟨rfl, trivial⟩
  · replace hf := (if_neg (show ¬ (q2.1 < (2000000 : Int32)) from c3)).symm.trans hf
    refine w_iload_n dX35_shape_13 rfl rfl ?_
    refine w_ldc_w dX35_shape_14 q5265 ?_
    refine w_icmp_lt 33 dX35_shape_17 (by decide) (fun c4 => ?_) (fun c4 => ?_)
    · replace hf := (if_pos (show q2.1 < (3000000 : Int32) from c4)).symm.trans hf
      refine w_iload_n dX35_shape_33 rfl rfl ?_
      refine w_if_eq 49 dX35_shape_34 (by decide) (fun c5 => ?_) (fun c5 => ?_)
      · replace hf := (if_pos (show p1 = 0 from c5)).symm.trans hf
        refine w_iload_n dX35_shape_49 rfl rfl ?_
        refine w_ldc_w dX35_shape_50 q5134 ?_
        refine w_isub dX35_shape_53 ?_
        refine w_sipush dX35_shape_54 (v := 256) (by decide) ?_
        refine w_irem dX35_shape_57 (by decide) ?_
        exact (pX35_shape_b58 hd hf).to trivial
      · replace hf := (if_neg (show ¬ (p1 = 0) from c5)).symm.trans hf
        refine w_iload_n dX35_shape_37 rfl rfl ?_
        refine w_ldc_w dX35_shape_38 q5134 ?_
        refine w_isub dX35_shape_41 ?_
        refine w_sipush dX35_shape_42 (v := 256) (by decide) ?_
        refine w_idiv dX35_shape_45 (by decide) ?_
        refine w_goto 58 dX35_shape_46 (by decide) ?_
        exact (pX35_shape_b58 hd hf).to trivial
    · replace hf := (if_neg (show ¬ (q2.1 < (3000000 : Int32)) from c4)).symm.trans hf
      exact (pX35_shape_b20 hd hf).to ⟨rfl, trivial⟩
abbrev cX35_meanSame : ByteArray := prog_37_method_59_code
def yX35_meanSame : MethodName := ⟨RX35, "meanSame", "(II)Z"⟩
def YX35_meanSame : eY := (yX35_meanSame, cX35_meanSame, 7, (Option.some FieldType.boolean), [])
theorem mX35_meanSame : e_mv YX35_meanSame RX35 2 := ⟨q5427, qs303, q5428, by decide, by decide +kernel, (e_sig (by decide +kernel))⟩
theorem dX35_meanSame_0 : decode cX35_meanSame 0 = .ok (.iload_n 1, 1) := dc_27 (by decide +kernel)
theorem dX35_meanSame_1 : decode cX35_meanSame 1 = .ok (.iload_n 2, 1) := dc_28 (by decide +kernel)
theorem dX35_meanSame_2 : decode cX35_meanSame 2 = .ok (.if_icmp .ne 5, 3) := dc_160 (a := 0) (b := 5) (v := 5) (by decide +kernel)
theorem dX35_meanSame_5 : decode cX35_meanSame 5 = .ok (.iconst 1, 1) := dc_4 (by decide +kernel)
theorem dX35_meanSame_6 : decode cX35_meanSame 6 = .ok (.ireturn, 1) := dc_172 (by decide +kernel)
theorem dX35_meanSame_7 : decode cX35_meanSame 7 = .ok (.iload_n 1, 1) := dc_27 (by decide +kernel)
theorem dX35_meanSame_8 : decode cX35_meanSame 8 = .ok (.ldc 14, 2) := dc_18 (a := 14) (by decide +kernel)
theorem dX35_meanSame_10 : decode cX35_meanSame 10 = .ok (.if_icmp .lt 23, 3) := dc_161 (a := 0) (b := 23) (v := 23) (by decide +kernel)
theorem dX35_meanSame_13 : decode cX35_meanSame 13 = .ok (.iload_n 1, 1) := dc_27 (by decide +kernel)
theorem dX35_meanSame_14 : decode cX35_meanSame 14 = .ok (.ldc_w 470, 3) := dc_19 (a := 1) (b := 214) (n := 470) (by decide +kernel)
theorem dX35_meanSame_17 : decode cX35_meanSame 17 = .ok (.if_icmp .ge 16, 3) := dc_162 (a := 0) (b := 16) (v := 16) (by decide +kernel)
theorem dX35_meanSame_20 : decode cX35_meanSame 20 = .ok (.iload_n 2, 1) := dc_28 (by decide +kernel)
theorem dX35_meanSame_21 : decode cX35_meanSame 21 = .ok (.ldc 14, 2) := dc_18 (a := 14) (by decide +kernel)
theorem dX35_meanSame_23 : decode cX35_meanSame 23 = .ok (.if_icmp .lt 10, 3) := dc_161 (a := 0) (b := 10) (v := 10) (by decide +kernel)
theorem dX35_meanSame_26 : decode cX35_meanSame 26 = .ok (.iload_n 2, 1) := dc_28 (by decide +kernel)
theorem dX35_meanSame_27 : decode cX35_meanSame 27 = .ok (.ldc_w 470, 3) := dc_19 (a := 1) (b := 214) (n := 470) (by decide +kernel)
theorem dX35_meanSame_30 : decode cX35_meanSame 30 = .ok (.if_icmp .lt 5, 3) := dc_161 (a := 0) (b := 5) (v := 5) (by decide +kernel)
theorem dX35_meanSame_33 : decode cX35_meanSame 33 = .ok (.iconst 0, 1) := dc_3 (by decide +kernel)
theorem dX35_meanSame_34 : decode cX35_meanSame 34 = .ok (.ireturn, 1) := dc_172 (by decide +kernel)
theorem dX35_meanSame_35 : decode cX35_meanSame 35 = .ok (.iload_n 1, 1) := dc_27 (by decide +kernel)
theorem dX35_meanSame_36 : decode cX35_meanSame 36 = .ok (.ldc 14, 2) := dc_18 (a := 14) (by decide +kernel)
theorem dX35_meanSame_38 : decode cX35_meanSame 38 = .ok (.isub, 1) := dc_100 (by decide +kernel)
theorem dX35_meanSame_39 : decode cX35_meanSame 39 = .ok (.istore_n 3, 1) := dc_62 (by decide +kernel)
theorem dX35_meanSame_40 : decode cX35_meanSame 40 = .ok (.iload_n 2, 1) := dc_28 (by decide +kernel)
theorem dX35_meanSame_41 : decode cX35_meanSame 41 = .ok (.ldc 14, 2) := dc_18 (a := 14) (by decide +kernel)
theorem dX35_meanSame_43 : decode cX35_meanSame 43 = .ok (.isub, 1) := dc_100 (by decide +kernel)
theorem dX35_meanSame_44 : decode cX35_meanSame 44 = .ok (.istore 4, 2) := dc_54 (a := 4) (by decide +kernel)
theorem dX35_meanSame_46 : decode cX35_meanSame 46 = .ok (.aload_n 0, 1) := dc_42 (by decide +kernel)
theorem dX35_meanSame_47 : decode cX35_meanSame 47 = .ok (.getfield 96, 3) := dc_180 (a := 0) (b := 96) (n := 96) (by decide +kernel)
theorem dX35_meanSame_50 : decode cX35_meanSame 50 = .ok (.iload_n 3, 1) := dc_29 (by decide +kernel)
theorem dX35_meanSame_51 : decode cX35_meanSame 51 = .ok (.iaload, 1) := dc_46 (by decide +kernel)
theorem dX35_meanSame_52 : decode cX35_meanSame 52 = .ok (.aload_n 0, 1) := dc_42 (by decide +kernel)
theorem dX35_meanSame_53 : decode cX35_meanSame 53 = .ok (.getfield 93, 3) := dc_180 (a := 0) (b := 93) (n := 93) (by decide +kernel)
theorem dX35_meanSame_56 : decode cX35_meanSame 56 = .ok (.iload_n 3, 1) := dc_29 (by decide +kernel)
theorem dX35_meanSame_57 : decode cX35_meanSame 57 = .ok (.iaload, 1) := dc_46 (by decide +kernel)
theorem dX35_meanSame_58 : decode cX35_meanSame 58 = .ok (.isub, 1) := dc_100 (by decide +kernel)
theorem dX35_meanSame_59 : decode cX35_meanSame 59 = .ok (.aload_n 0, 1) := dc_42 (by decide +kernel)
theorem dX35_meanSame_60 : decode cX35_meanSame 60 = .ok (.getfield 96, 3) := dc_180 (a := 0) (b := 96) (n := 96) (by decide +kernel)
theorem dX35_meanSame_63 : decode cX35_meanSame 63 = .ok (.iload 4, 2) := dc_21 (a := 4) (by decide +kernel)
theorem dX35_meanSame_65 : decode cX35_meanSame 65 = .ok (.iaload, 1) := dc_46 (by decide +kernel)
theorem dX35_meanSame_66 : decode cX35_meanSame 66 = .ok (.aload_n 0, 1) := dc_42 (by decide +kernel)
theorem dX35_meanSame_67 : decode cX35_meanSame 67 = .ok (.getfield 93, 3) := dc_180 (a := 0) (b := 93) (n := 93) (by decide +kernel)
theorem dX35_meanSame_70 : decode cX35_meanSame 70 = .ok (.iload 4, 2) := dc_21 (a := 4) (by decide +kernel)
theorem dX35_meanSame_72 : decode cX35_meanSame 72 = .ok (.iaload, 1) := dc_46 (by decide +kernel)
theorem dX35_meanSame_73 : decode cX35_meanSame 73 = .ok (.isub, 1) := dc_100 (by decide +kernel)
theorem dX35_meanSame_74 : decode cX35_meanSame 74 = .ok (.if_icmp .ne 38, 3) := dc_160 (a := 0) (b := 38) (v := 38) (by decide +kernel)
theorem dX35_meanSame_77 : decode cX35_meanSame 77 = .ok (.aload_n 0, 1) := dc_42 (by decide +kernel)
theorem dX35_meanSame_78 : decode cX35_meanSame 78 = .ok (.getfield 99, 3) := dc_180 (a := 0) (b := 99) (n := 99) (by decide +kernel)
theorem dX35_meanSame_81 : decode cX35_meanSame 81 = .ok (.iload_n 3, 1) := dc_29 (by decide +kernel)
theorem dX35_meanSame_82 : decode cX35_meanSame 82 = .ok (.iaload, 1) := dc_46 (by decide +kernel)
theorem dX35_meanSame_83 : decode cX35_meanSame 83 = .ok (.aload_n 0, 1) := dc_42 (by decide +kernel)
theorem dX35_meanSame_84 : decode cX35_meanSame 84 = .ok (.getfield 93, 3) := dc_180 (a := 0) (b := 93) (n := 93) (by decide +kernel)
theorem dX35_meanSame_87 : decode cX35_meanSame 87 = .ok (.iload_n 3, 1) := dc_29 (by decide +kernel)
theorem dX35_meanSame_88 : decode cX35_meanSame 88 = .ok (.iaload, 1) := dc_46 (by decide +kernel)
theorem dX35_meanSame_89 : decode cX35_meanSame 89 = .ok (.isub, 1) := dc_100 (by decide +kernel)
theorem dX35_meanSame_90 : decode cX35_meanSame 90 = .ok (.aload_n 0, 1) := dc_42 (by decide +kernel)
theorem dX35_meanSame_91 : decode cX35_meanSame 91 = .ok (.getfield 99, 3) := dc_180 (a := 0) (b := 99) (n := 99) (by decide +kernel)
theorem dX35_meanSame_94 : decode cX35_meanSame 94 = .ok (.iload 4, 2) := dc_21 (a := 4) (by decide +kernel)
theorem dX35_meanSame_96 : decode cX35_meanSame 96 = .ok (.iaload, 1) := dc_46 (by decide +kernel)
theorem dX35_meanSame_97 : decode cX35_meanSame 97 = .ok (.aload_n 0, 1) := dc_42 (by decide +kernel)
theorem dX35_meanSame_98 : decode cX35_meanSame 98 = .ok (.getfield 93, 3) := dc_180 (a := 0) (b := 93) (n := 93) (by decide +kernel)
theorem dX35_meanSame_101 : decode cX35_meanSame 101 = .ok (.iload 4, 2) := dc_21 (a := 4) (by decide +kernel)
theorem dX35_meanSame_103 : decode cX35_meanSame 103 = .ok (.iaload, 1) := dc_46 (by decide +kernel)
theorem dX35_meanSame_104 : decode cX35_meanSame 104 = .ok (.isub, 1) := dc_100 (by decide +kernel)
theorem dX35_meanSame_105 : decode cX35_meanSame 105 = .ok (.if_icmp .ne 7, 3) := dc_160 (a := 0) (b := 7) (v := 7) (by decide +kernel)
theorem dX35_meanSame_108 : decode cX35_meanSame 108 = .ok (.iconst 1, 1) := dc_4 (by decide +kernel)
theorem dX35_meanSame_109 : decode cX35_meanSame 109 = .ok (.goto 4, 3) := dc_167 (a := 0) (b := 4) (v := 4) (by decide +kernel)
theorem dX35_meanSame_112 : decode cX35_meanSame 112 = .ok (.iconst 0, 1) := dc_3 (by decide +kernel)
theorem dX35_meanSame_113 : decode cX35_meanSame 113 = .ok (.istore 5, 2) := dc_54 (a := 5) (by decide +kernel)
theorem dX35_meanSame_115 : decode cX35_meanSame 115 = .ok (.iconst 0, 1) := dc_3 (by decide +kernel)
theorem dX35_meanSame_116 : decode cX35_meanSame 116 = .ok (.istore 6, 2) := dc_54 (a := 6) (by decide +kernel)
theorem dX35_meanSame_118 : decode cX35_meanSame 118 = .ok (.iload 5, 2) := dc_21 (a := 5) (by decide +kernel)
theorem dX35_meanSame_120 : decode cX35_meanSame 120 = .ok (.ifCond .eq 66, 3) := dc_153 (a := 0) (b := 66) (v := 66) (by decide +kernel)
theorem dX35_meanSame_123 : decode cX35_meanSame 123 = .ok (.iload 6, 2) := dc_21 (a := 6) (by decide +kernel)
theorem dX35_meanSame_125 : decode cX35_meanSame 125 = .ok (.aload_n 0, 1) := dc_42 (by decide +kernel)
theorem dX35_meanSame_126 : decode cX35_meanSame 126 = .ok (.getfield 99, 3) := dc_180 (a := 0) (b := 99) (n := 99) (by decide +kernel)
theorem dX35_meanSame_129 : decode cX35_meanSame 129 = .ok (.iload_n 3, 1) := dc_29 (by decide +kernel)
theorem dX35_meanSame_130 : decode cX35_meanSame 130 = .ok (.iaload, 1) := dc_46 (by decide +kernel)
theorem dX35_meanSame_131 : decode cX35_meanSame 131 = .ok (.aload_n 0, 1) := dc_42 (by decide +kernel)
theorem dX35_meanSame_132 : decode cX35_meanSame 132 = .ok (.getfield 93, 3) := dc_180 (a := 0) (b := 93) (n := 93) (by decide +kernel)
theorem dX35_meanSame_135 : decode cX35_meanSame 135 = .ok (.iload_n 3, 1) := dc_29 (by decide +kernel)
theorem dX35_meanSame_136 : decode cX35_meanSame 136 = .ok (.iaload, 1) := dc_46 (by decide +kernel)
theorem dX35_meanSame_137 : decode cX35_meanSame 137 = .ok (.isub, 1) := dc_100 (by decide +kernel)
theorem dX35_meanSame_138 : decode cX35_meanSame 138 = .ok (.if_icmp .ge 48, 3) := dc_162 (a := 0) (b := 48) (v := 48) (by decide +kernel)
theorem dX35_meanSame_141 : decode cX35_meanSame 141 = .ok (.aload_n 0, 1) := dc_42 (by decide +kernel)
theorem dX35_meanSame_142 : decode cX35_meanSame 142 = .ok (.getfield 102, 3) := dc_180 (a := 0) (b := 102) (n := 102) (by decide +kernel)
theorem dX35_meanSame_145 : decode cX35_meanSame 145 = .ok (.aload_n 0, 1) := dc_42 (by decide +kernel)
theorem dX35_meanSame_146 : decode cX35_meanSame 146 = .ok (.getfield 93, 3) := dc_180 (a := 0) (b := 93) (n := 93) (by decide +kernel)
theorem dX35_meanSame_149 : decode cX35_meanSame 149 = .ok (.iload_n 3, 1) := dc_29 (by decide +kernel)
theorem dX35_meanSame_150 : decode cX35_meanSame 150 = .ok (.iaload, 1) := dc_46 (by decide +kernel)
theorem dX35_meanSame_151 : decode cX35_meanSame 151 = .ok (.iload 6, 2) := dc_21 (a := 6) (by decide +kernel)
theorem dX35_meanSame_153 : decode cX35_meanSame 153 = .ok (.iadd, 1) := dc_96 (by decide +kernel)
theorem dX35_meanSame_154 : decode cX35_meanSame 154 = .ok (.iaload, 1) := dc_46 (by decide +kernel)
theorem dX35_meanSame_155 : decode cX35_meanSame 155 = .ok (.aload_n 0, 1) := dc_42 (by decide +kernel)
theorem dX35_meanSame_156 : decode cX35_meanSame 156 = .ok (.getfield 102, 3) := dc_180 (a := 0) (b := 102) (n := 102) (by decide +kernel)
theorem dX35_meanSame_159 : decode cX35_meanSame 159 = .ok (.aload_n 0, 1) := dc_42 (by decide +kernel)
theorem dX35_meanSame_160 : decode cX35_meanSame 160 = .ok (.getfield 93, 3) := dc_180 (a := 0) (b := 93) (n := 93) (by decide +kernel)
theorem dX35_meanSame_163 : decode cX35_meanSame 163 = .ok (.iload 4, 2) := dc_21 (a := 4) (by decide +kernel)
theorem dX35_meanSame_165 : decode cX35_meanSame 165 = .ok (.iaload, 1) := dc_46 (by decide +kernel)
theorem dX35_meanSame_166 : decode cX35_meanSame 166 = .ok (.iload 6, 2) := dc_21 (a := 6) (by decide +kernel)
theorem dX35_meanSame_168 : decode cX35_meanSame 168 = .ok (.iadd, 1) := dc_96 (by decide +kernel)
theorem dX35_meanSame_169 : decode cX35_meanSame 169 = .ok (.iaload, 1) := dc_46 (by decide +kernel)
theorem dX35_meanSame_170 : decode cX35_meanSame 170 = .ok (.if_icmp .ne 7, 3) := dc_160 (a := 0) (b := 7) (v := 7) (by decide +kernel)
theorem dX35_meanSame_173 : decode cX35_meanSame 173 = .ok (.iconst 1, 1) := dc_4 (by decide +kernel)
theorem dX35_meanSame_174 : decode cX35_meanSame 174 = .ok (.goto 4, 3) := dc_167 (a := 0) (b := 4) (v := 4) (by decide +kernel)
theorem dX35_meanSame_177 : decode cX35_meanSame 177 = .ok (.iconst 0, 1) := dc_3 (by decide +kernel)
theorem dX35_meanSame_178 : decode cX35_meanSame 178 = .ok (.istore 5, 2) := dc_54 (a := 5) (by decide +kernel)
theorem dX35_meanSame_180 : decode cX35_meanSame 180 = .ok (.iinc 6 1, 3) := dc_132 (a := 6) (b := 1) (v := 1) (by decide +kernel)
theorem dX35_meanSame_183 : decode cX35_meanSame 183 = .ok (.goto (-65), 3) := dc_167 (a := 255) (b := 191) (v := -65) (by decide +kernel)
theorem dX35_meanSame_186 : decode cX35_meanSame 186 = .ok (.iload 5, 2) := dc_21 (a := 5) (by decide +kernel)
theorem dX35_meanSame_188 : decode cX35_meanSame 188 = .ok (.ireturn, 1) := dc_172 (by decide +kernel)
def fX35_meanSame_b33 (N : Nat)  (h : eH) : Option (Int32 × eH) :=
  some ((0 : Int32), h)
theorem pX35_meanSame_b33 {w : eW} {d : Nat} (hd : 0 ≤ d) {N : Nat}  {h : eH} {q} (hf : fX35_meanSame_b33 N h = some q) : wp w d YX35_meanSame 33 [none, none, none, none, none, none, none] [] h (e_is (e_rn c_I q)) := by
  unfold fX35_meanSame_b33 at hf
  refine w_iconst dX35_meanSame_33 (v := 0) (by decide) ?_
  cases hf
  exact w_iret dX35_meanSame_34 rfl rfl rfl
def fX35_meanSame_b178 (N : Nat) (k118 : Nat → Int32 → Int32 → Int32 → Int32 → eH → Option (Int32 × eH)) (l0 : Nat) (l3 : Int32) (l4 : Int32) (l6 : Int32) (s0 : Int32) (h : eH) : Option (Int32 × eH) :=
  k118 l0 l3 l4 s0 (l6 + (1 : Int32)) h
theorem pX35_meanSame_b178 {w : eW} {d : Nat} (hd : 0 ≤ d) {N : Nat} {k118 : Nat → Int32 → Int32 → Int32 → Int32 → eH → Option (Int32 × eH)} (hk118 : ∀ l0 l3 l4 l5 l6 h q, k118 l0 l3 l4 l5 l6 h = some q → wp w d YX35_meanSame 118 [some (.ref l0), none, none, some (.int l3), some (.int l4), some (.int l5), some (.int l6)] [] h (e_is (e_rn c_I q))) {l0 : Nat} {l3 : Int32} {l4 : Int32} {l6 : Int32} {s0 : Int32} {h : eH} {q} (hf : fX35_meanSame_b178 N k118 l0 l3 l4 l6 s0 h = some q) : wp w d YX35_meanSame 178 [some (.ref l0), none, none, some (.int l3), some (.int l4), none, some (.int l6)] [.int s0] h (e_is (e_rn c_I q)) := by
  unfold fX35_meanSame_b178 at hf
  refine w_istore dX35_meanSame_178 (by decide) (ls' := [some (.ref l0), none, none, some (.int l3), some (.int l4), some (.int s0), some (.int l6)]) rfl ?_
  refine w_iinc dX35_meanSame_180 (v := (l6 + (1 : Int32))) rfl rfl (by decide) (ls' := [some (.ref l0), none, none, some (.int l3), some (.int l4), some (.int s0), some (.int (l6 + (1 : Int32)))]) rfl ?_
  refine w_goto 118 dX35_meanSame_183 (by decide) ?_
  exact (hk118 _ _ _ _ _ _ _ hf).to ⟨rfl, rfl, rfl, rfl, rfl, trivial⟩
def fX35_meanSame_b186 (N : Nat) (l5 : Int32) (h : eH) : Option (Int32 × eH) :=
  z_r l5 (l5, h)
theorem pX35_meanSame_b186 {w : eW} {d : Nat} (hd : 0 ≤ d) {N : Nat} {l5 : Int32} {h : eH} {q} (hf : fX35_meanSame_b186 N l5 h = some q) : wp w d YX35_meanSame 186 [none, none, none, none, none, some (.int l5), none] [] h (e_is (e_rn c_I q)) := by
  unfold fX35_meanSame_b186 at hf
  refine w_iload dX35_meanSame_186 rfl ?_
  obtain ⟨b1, rfl⟩ := z_r_some hf
  exact w_iret dX35_meanSame_188 rfl b1 rfl
def fX35_meanSame_b118 (N : Nat) : Nat → Nat → Int32 → Int32 → Int32 → Int32 → eH → Option (Int32 × eH)
  | 0, _, _, _, _, _, _ => none
  | n + 1, l0, l3, l4, l5, l6, h =>
    if l5 = 0 then
      fX35_meanSame_b186 N l5 h
    else
      (g_A 34 h l0 34).bind fun a2 =>
      (r_I 100 h a2 l3).bind fun x4 =>
      (g_A 34 h l0 32).bind fun a6 =>
      (r_I 100 h a6 l3).bind fun x8 =>
      if (x4 - x8) ≤ l6 then
        fX35_meanSame_b186 N l5 h
      else
        (g_A 34 h l0 36).bind fun a11 =>
        (g_A 34 h l0 32).bind fun a13 =>
        (r_I 100 h a13 l3).bind fun x15 =>
        (r_I 100 h a11 (x15 + l6)).bind fun x17 =>
        (g_A 34 h l0 36).bind fun a19 =>
        (g_A 34 h l0 32).bind fun a21 =>
        (r_I 100 h a21 l4).bind fun x23 =>
        (r_I 100 h a19 (x23 + l6)).bind fun x25 =>
        if ¬ x17 = x25 then
          fX35_meanSame_b178 N (fX35_meanSame_b118 N n) l0 l3 l4 l6 (0 : Int32) h
        else
          fX35_meanSame_b178 N (fX35_meanSame_b118 N n) l0 l3 l4 l6 (1 : Int32) h
theorem pX35_meanSame_b118 {w : eW} {d : Nat} (hd : 0 ≤ d) {N : Nat} : ∀ (n : Nat) l0 l3 l4 l5 l6 h q, fX35_meanSame_b118 N n l0 l3 l4 l5 l6 h = some q → wp w d YX35_meanSame 118 [some (.ref l0), none, none, some (.int l3), some (.int l4), some (.int l5), some (.int l6)] [] h (e_is (e_rn c_I q)) := by
  intro n
  induction n with
  | zero => intro l0 l3 l4 l5 l6 h q hf; simp [fX35_meanSame_b118] at hf
  | succ n ih =>
    intro l0 l3 l4 l5 l6 h q hf
    rw [fX35_meanSame_b118] at hf
    refine w_iload dX35_meanSame_118 rfl ?_
    refine w_if_eq 186 dX35_meanSame_120 (by decide) (fun c1 => ?_) (fun c1 => ?_)
    · replace hf := (if_pos (show l5 = 0 from c1)).symm.trans hf
      exact (pX35_meanSame_b186 hd hf).to ⟨rfl, trivial⟩
    · replace hf := (if_neg (show ¬ (l5 = 0) from c1)).symm.trans hf
      refine w_iload dX35_meanSame_123 rfl ?_
      refine w_aload_n dX35_meanSame_125 rfl rfl ?_
      obtain ⟨a2, b3, hf⟩ := Option.bind_eq_some_iff.mp hf
      refine GX35_99 b3 dX35_meanSame_126 rfl ?_
      refine w_iload_n dX35_meanSame_129 rfl rfl ?_
      obtain ⟨x4, b5, hf⟩ := Option.bind_eq_some_iff.mp hf
      refine x_rI b5 dX35_meanSame_130 ?_
      refine w_aload_n dX35_meanSame_131 rfl rfl ?_
      obtain ⟨a6, b7, hf⟩ := Option.bind_eq_some_iff.mp hf
      refine GX35_93 b7 dX35_meanSame_132 rfl ?_
      refine w_iload_n dX35_meanSame_135 rfl rfl ?_
      obtain ⟨x8, b9, hf⟩ := Option.bind_eq_some_iff.mp hf
      refine x_rI b9 dX35_meanSame_136 ?_
      refine w_isub dX35_meanSame_137 ?_
      refine w_icmp_ge 186 dX35_meanSame_138 (by decide) (fun c10 => ?_) (fun c10 => ?_)
      · replace hf := (if_pos (show (x4 - x8) ≤ l6 from c10)).symm.trans hf
        exact (pX35_meanSame_b186 hd hf).to ⟨rfl, trivial⟩
      · replace hf := (if_neg (show ¬ ((x4 - x8) ≤ l6) from c10)).symm.trans hf
        refine w_aload_n dX35_meanSame_141 rfl rfl ?_
        obtain ⟨a11, b12, hf⟩ := Option.bind_eq_some_iff.mp hf
        refine GX35_102 b12 dX35_meanSame_142 rfl ?_
        refine w_aload_n dX35_meanSame_145 rfl rfl ?_
        obtain ⟨a13, b14, hf⟩ := Option.bind_eq_some_iff.mp hf
        refine GX35_93 b14 dX35_meanSame_146 rfl ?_
        refine w_iload_n dX35_meanSame_149 rfl rfl ?_
        obtain ⟨x15, b16, hf⟩ := Option.bind_eq_some_iff.mp hf
        refine x_rI b16 dX35_meanSame_150 ?_
        refine w_iload dX35_meanSame_151 rfl ?_
        refine w_iadd dX35_meanSame_153 ?_
        obtain ⟨x17, b18, hf⟩ := Option.bind_eq_some_iff.mp hf
        refine x_rI b18 dX35_meanSame_154 ?_
        refine w_aload_n dX35_meanSame_155 rfl rfl ?_
        obtain ⟨a19, b20, hf⟩ := Option.bind_eq_some_iff.mp hf
        refine GX35_102 b20 dX35_meanSame_156 rfl ?_
        refine w_aload_n dX35_meanSame_159 rfl rfl ?_
        obtain ⟨a21, b22, hf⟩ := Option.bind_eq_some_iff.mp hf
        refine GX35_93 b22 dX35_meanSame_160 rfl ?_
        refine w_iload dX35_meanSame_163 rfl ?_
        obtain ⟨x23, b24, hf⟩ := Option.bind_eq_some_iff.mp hf
        refine x_rI b24 dX35_meanSame_165 ?_
        refine w_iload dX35_meanSame_166 rfl ?_
        refine w_iadd dX35_meanSame_168 ?_
        obtain ⟨x25, b26, hf⟩ := Option.bind_eq_some_iff.mp hf
        refine x_rI b26 dX35_meanSame_169 ?_
        refine w_icmp_ne 177 dX35_meanSame_170 (by decide) (fun c27 => ?_) (fun c27 => ?_)
        · replace hf := (if_pos (show ¬ x17 = x25 from c27)).symm.trans hf
          refine w_iconst dX35_meanSame_177 (v := 0) (by decide) ?_
          exact (pX35_meanSame_b178 hd ih hf).to ⟨rfl, rfl, rfl, rfl, trivial⟩
        · replace hf := (if_neg (show ¬ (¬ x17 = x25) from (fun z => z c27))).symm.trans hf
          refine w_iconst dX35_meanSame_173 (v := 1) (by decide) ?_
          refine w_goto 178 dX35_meanSame_174 (by decide) ?_
          exact (pX35_meanSame_b178 hd ih hf).to ⟨rfl, rfl, rfl, rfl, trivial⟩
def fX35_meanSame_b113 (N : Nat) (l0 : Nat) (l3 : Int32) (l4 : Int32) (s0 : Int32) (h : eH) : Option (Int32 × eH) :=
  fX35_meanSame_b118 N N l0 l3 l4 s0 (0 : Int32) h
theorem pX35_meanSame_b113 {w : eW} {d : Nat} (hd : 0 ≤ d) {N : Nat} {l0 : Nat} {l3 : Int32} {l4 : Int32} {s0 : Int32} {h : eH} {q} (hf : fX35_meanSame_b113 N l0 l3 l4 s0 h = some q) : wp w d YX35_meanSame 113 [some (.ref l0), none, none, some (.int l3), some (.int l4), none, none] [.int s0] h (e_is (e_rn c_I q)) := by
  unfold fX35_meanSame_b113 at hf
  refine w_istore dX35_meanSame_113 (by decide) (ls' := [some (.ref l0), none, none, some (.int l3), some (.int l4), some (.int s0), none]) rfl ?_
  refine w_iconst dX35_meanSame_115 (v := 0) (by decide) ?_
  refine w_istore dX35_meanSame_116 (by decide) (ls' := [some (.ref l0), none, none, some (.int l3), some (.int l4), some (.int s0), some (.int (0 : Int32))]) rfl ?_
  exact (pX35_meanSame_b118 hd N _ _ _ _ _ _ _ hf).to ⟨rfl, rfl, rfl, rfl, rfl, trivial⟩
def fX35_meanSame_b112 (N : Nat) (l0 : Nat) (l3 : Int32) (l4 : Int32) (h : eH) : Option (Int32 × eH) :=
  fX35_meanSame_b113 N l0 l3 l4 (0 : Int32) h
theorem pX35_meanSame_b112 {w : eW} {d : Nat} (hd : 0 ≤ d) {N : Nat} {l0 : Nat} {l3 : Int32} {l4 : Int32} {h : eH} {q} (hf : fX35_meanSame_b112 N l0 l3 l4 h = some q) : wp w d YX35_meanSame 112 [some (.ref l0), none, none, some (.int l3), some (.int l4), none, none] [] h (e_is (e_rn c_I q)) := by
  unfold fX35_meanSame_b112 at hf
  refine w_iconst dX35_meanSame_112 (v := 0) (by decide) ?_
  exact (pX35_meanSame_b113 hd hf).to ⟨rfl, rfl, rfl, trivial⟩
def fX35_meanSame (N : Nat) (this : Nat) (p0 : Int32) (p1 : Int32) (h : eH) : Option (Int32 × eH) :=
  if ¬ p0 = p1 then
    if p0 < (100000 : Int32) then
      fX35_meanSame_b33 N h
    else
      if (2000000 : Int32) ≤ p0 then
        fX35_meanSame_b33 N h
      else
        if p1 < (100000 : Int32) then
          fX35_meanSame_b33 N h
        else
          if p1 < (2000000 : Int32) then
            (g_A 34 h this 33).bind fun a6 =>
            (r_I 100 h a6 (p0 - (100000 : Int32))).bind fun x8 =>
            (g_A 34 h this 32).bind fun a10 =>
            (r_I 100 h a10 (p0 - (100000 : Int32))).bind fun x12 =>
            (g_A 34 h this 33).bind fun a14 =>
            (r_I 100 h a14 (p1 - (100000 : Int32))).bind fun x16 =>
            (g_A 34 h this 32).bind fun a18 =>
            (r_I 100 h a18 (p1 - (100000 : Int32))).bind fun x20 =>
            if ¬ (x8 - x12) = (x16 - x20) then
              fX35_meanSame_b112 N this (p0 - (100000 : Int32)) (p1 - (100000 : Int32)) h
            else
              (g_A 34 h this 34).bind fun a23 =>
              (r_I 100 h a23 (p0 - (100000 : Int32))).bind fun x25 =>
              (g_A 34 h this 32).bind fun a27 =>
              (r_I 100 h a27 (p0 - (100000 : Int32))).bind fun x29 =>
              (g_A 34 h this 34).bind fun a31 =>
              (r_I 100 h a31 (p1 - (100000 : Int32))).bind fun x33 =>
              (g_A 34 h this 32).bind fun a35 =>
              (r_I 100 h a35 (p1 - (100000 : Int32))).bind fun x37 =>
              if ¬ (x25 - x29) = (x33 - x37) then
                fX35_meanSame_b112 N this (p0 - (100000 : Int32)) (p1 - (100000 : Int32)) h
              else
                fX35_meanSame_b113 N this (p0 - (100000 : Int32)) (p1 - (100000 : Int32)) (1 : Int32) h
          else
            fX35_meanSame_b33 N h
  else
    some ((1 : Int32), h)
theorem pX35_meanSame {w : eW} {d : Nat} (hd : 0 ≤ d) {N : Nat} {this : Nat} {p0 : Int32} {p1 : Int32} {h : eH} {q} (hf : fX35_meanSame N this p0 p1 h = some q) : wm w d YX35_meanSame [.ref this, .int p0, .int p1] h (e_is (e_rn c_I q)) := by
  show wp w d YX35_meanSame 0 [some (.ref this), some (.int p0), some (.int p1), none, none, none, none] [] h _
  unfold fX35_meanSame at hf
  refine w_iload_n dX35_meanSame_0 rfl rfl ?_
  refine w_iload_n dX35_meanSame_1 rfl rfl ?_
  refine w_icmp_ne 7 dX35_meanSame_2 (by decide) (fun c1 => ?_) (fun c1 => ?_)
  · replace hf := (if_pos (show ¬ p0 = p1 from c1)).symm.trans hf
    refine w_iload_n dX35_meanSame_7 rfl rfl ?_
    refine w_ldc dX35_meanSame_8 q4120 ?_
    refine w_icmp_lt 33 dX35_meanSame_10 (by decide) (fun c2 => ?_) (fun c2 => ?_)
    · replace hf := (if_pos (show p0 < (100000 : Int32) from c2)).symm.trans hf
      exact (pX35_meanSame_b33 hd hf).to trivial
    · replace hf := (if_neg (show ¬ (p0 < (100000 : Int32)) from c2)).symm.trans hf
      refine w_iload_n dX35_meanSame_13 rfl rfl ?_
      refine w_ldc_w dX35_meanSame_14 q5134 ?_
      refine w_icmp_ge 33 dX35_meanSame_17 (by decide) (fun c3 => ?_) (fun c3 => ?_)
      · replace hf := (if_pos (show (2000000 : Int32) ≤ p0 from c3)).symm.trans hf
        exact (pX35_meanSame_b33 hd hf).to trivial
      · replace hf := (if_neg (show ¬ ((2000000 : Int32) ≤ p0) from c3)).symm.trans hf
        refine w_iload_n dX35_meanSame_20 rfl rfl ?_
        refine w_ldc dX35_meanSame_21 q4120 ?_
        refine w_icmp_lt 33 dX35_meanSame_23 (by decide) (fun c4 => ?_) (fun c4 => ?_)
        · replace hf := (if_pos (show p1 < (100000 : Int32) from c4)).symm.trans hf
          exact (pX35_meanSame_b33 hd hf).to trivial
        · replace hf := (if_neg (show ¬ (p1 < (100000 : Int32)) from c4)).symm.trans hf
          refine w_iload_n dX35_meanSame_26 rfl rfl ?_
          refine w_ldc_w dX35_meanSame_27 q5134 ?_
          refine w_icmp_lt 35 dX35_meanSame_30 (by decide) (fun c5 => ?_) (fun c5 => ?_)
          · replace hf := (if_pos (show p1 < (2000000 : Int32) from c5)).symm.trans hf
            refine w_iload_n dX35_meanSame_35 rfl rfl ?_
            refine w_ldc dX35_meanSame_36 q4120 ?_
            refine w_isub dX35_meanSame_38 ?_
            refine w_istore_n dX35_meanSame_39 rfl (by decide) (ls' := [some (.ref this), some (.int p0), some (.int p1), some (.int (p0 - (100000 : Int32))), none, none, none]) rfl ?_
            refine w_iload_n dX35_meanSame_40 rfl rfl ?_
            refine w_ldc dX35_meanSame_41 q4120 ?_
            refine w_isub dX35_meanSame_43 ?_
            refine w_istore dX35_meanSame_44 (by decide) (ls' := [some (.ref this), some (.int p0), some (.int p1), some (.int (p0 - (100000 : Int32))), some (.int (p1 - (100000 : Int32))), none, none]) rfl ?_
            refine w_aload_n dX35_meanSame_46 rfl rfl ?_
            obtain ⟨a6, b7, hf⟩ := Option.bind_eq_some_iff.mp hf
            refine GX35_96 b7 dX35_meanSame_47 rfl ?_
            refine w_iload_n dX35_meanSame_50 rfl rfl ?_
            obtain ⟨x8, b9, hf⟩ := Option.bind_eq_some_iff.mp hf
            refine x_rI b9 dX35_meanSame_51 ?_
            refine w_aload_n dX35_meanSame_52 rfl rfl ?_
            obtain ⟨a10, b11, hf⟩ := Option.bind_eq_some_iff.mp hf
            refine GX35_93 b11 dX35_meanSame_53 rfl ?_
            refine w_iload_n dX35_meanSame_56 rfl rfl ?_
            obtain ⟨x12, b13, hf⟩ := Option.bind_eq_some_iff.mp hf
            refine x_rI b13 dX35_meanSame_57 ?_
            refine w_isub dX35_meanSame_58 ?_
            refine w_aload_n dX35_meanSame_59 rfl rfl ?_
            obtain ⟨a14, b15, hf⟩ := Option.bind_eq_some_iff.mp hf
            refine GX35_96 b15 dX35_meanSame_60 rfl ?_
            refine w_iload dX35_meanSame_63 rfl ?_
            obtain ⟨x16, b17, hf⟩ := Option.bind_eq_some_iff.mp hf
            refine x_rI b17 dX35_meanSame_65 ?_
            refine w_aload_n dX35_meanSame_66 rfl rfl ?_
            obtain ⟨a18, b19, hf⟩ := Option.bind_eq_some_iff.mp hf
            refine GX35_93 b19 dX35_meanSame_67 rfl ?_
            refine w_iload dX35_meanSame_70 rfl ?_
            obtain ⟨x20, b21, hf⟩ := Option.bind_eq_some_iff.mp hf
            refine x_rI b21 dX35_meanSame_72 ?_
            refine w_isub dX35_meanSame_73 ?_
            refine w_icmp_ne 112 dX35_meanSame_74 (by decide) (fun c22 => ?_) (fun c22 => ?_)
            · replace hf := (if_pos (show ¬ (x8 - x12) = (x16 - x20) from c22)).symm.trans hf
              exact (pX35_meanSame_b112 hd hf).to ⟨rfl, rfl, rfl, trivial⟩
            · replace hf := (if_neg (show ¬ (¬ (x8 - x12) = (x16 - x20)) from (fun z => z c22))).symm.trans hf
              refine w_aload_n dX35_meanSame_77 rfl rfl ?_
              obtain ⟨a23, b24, hf⟩ := Option.bind_eq_some_iff.mp hf
              refine GX35_99 b24 dX35_meanSame_78 rfl ?_
              refine w_iload_n dX35_meanSame_81 rfl rfl ?_
              obtain ⟨x25, b26, hf⟩ := Option.bind_eq_some_iff.mp hf
              refine x_rI b26 dX35_meanSame_82 ?_
              refine w_aload_n dX35_meanSame_83 rfl rfl ?_
              obtain ⟨a27, b28, hf⟩ := Option.bind_eq_some_iff.mp hf
              refine GX35_93 b28 dX35_meanSame_84 rfl ?_
              refine w_iload_n dX35_meanSame_87 rfl rfl ?_
              obtain ⟨x29, b30, hf⟩ := Option.bind_eq_some_iff.mp hf
              refine x_rI b30 dX35_meanSame_88 ?_
              refine w_isub dX35_meanSame_89 ?_
              refine w_aload_n dX35_meanSame_90 rfl rfl ?_
              obtain ⟨a31, b32, hf⟩ := Option.bind_eq_some_iff.mp hf
              refine GX35_99 b32 dX35_meanSame_91 rfl ?_
              refine w_iload dX35_meanSame_94 rfl ?_
              obtain ⟨x33, b34, hf⟩ := Option.bind_eq_some_iff.mp hf
              refine x_rI b34 dX35_meanSame_96 ?_
              refine w_aload_n dX35_meanSame_97 rfl rfl ?_
              obtain ⟨a35, b36, hf⟩ := Option.bind_eq_some_iff.mp hf
              refine GX35_93 b36 dX35_meanSame_98 rfl ?_
              refine w_iload dX35_meanSame_101 rfl ?_
              obtain ⟨x37, b38, hf⟩ := Option.bind_eq_some_iff.mp hf
              refine x_rI b38 dX35_meanSame_103 ?_
              refine w_isub dX35_meanSame_104 ?_
              refine w_icmp_ne 112 dX35_meanSame_105 (by decide) (fun c39 => ?_) (fun c39 => ?_)
              · replace hf := (if_pos (show ¬ (x25 - x29) = (x33 - x37) from c39)).symm.trans hf
                exact (pX35_meanSame_b112 hd hf).to ⟨rfl, rfl, rfl, trivial⟩
              · replace hf := (if_neg (show ¬ (¬ (x25 - x29) = (x33 - x37)) from (fun z => z c39))).symm.trans hf
                refine w_iconst dX35_meanSame_108 (v := 1) (by decide) ?_
                refine w_goto 113 dX35_meanSame_109 (by decide) ?_
                exact (pX35_meanSame_b113 hd hf).to ⟨rfl, rfl, rfl, trivial⟩
          · replace hf := (if_neg (show ¬ (p1 < (2000000 : Int32)) from c5)).symm.trans hf
            exact (pX35_meanSame_b33 hd hf).to trivial
  · replace hf := (if_neg (show ¬ (¬ p0 = p1) from (fun z => z c1))).symm.trans hf
    refine w_iconst dX35_meanSame_5 (v := 1) (by decide) ?_
    cases hf
    exact w_iret dX35_meanSame_6 rfl rfl rfl
abbrev cX35_drop : ByteArray := prog_37_method_63_code
def yX35_drop : MethodName := ⟨RX35, "drop", "(II)V"⟩
def YX35_drop : eY := (yX35_drop, cX35_drop, 7, none, [])
theorem mX35_drop : e_mv YX35_drop RX35 2 := ⟨q5435, qs305, q5436, by decide, by decide +kernel, (e_sig (by decide +kernel))⟩
theorem dX35_drop_0 : decode cX35_drop 0 = .ok (.aload_n 0, 1) := dc_42 (by decide +kernel)
theorem dX35_drop_1 : decode cX35_drop 1 = .ok (.getfield 350, 3) := dc_180 (a := 1) (b := 94) (n := 350) (by decide +kernel)
theorem dX35_drop_4 : decode cX35_drop 4 = .ok (.iconst 1, 1) := dc_4 (by decide +kernel)
theorem dX35_drop_5 : decode cX35_drop 5 = .ok (.isub, 1) := dc_100 (by decide +kernel)
theorem dX35_drop_6 : decode cX35_drop 6 = .ok (.iload_n 1, 1) := dc_27 (by decide +kernel)
theorem dX35_drop_7 : decode cX35_drop 7 = .ok (.isub, 1) := dc_100 (by decide +kernel)
theorem dX35_drop_8 : decode cX35_drop 8 = .ok (.istore_n 3, 1) := dc_62 (by decide +kernel)
theorem dX35_drop_9 : decode cX35_drop 9 = .ok (.iconst 0, 1) := dc_3 (by decide +kernel)
theorem dX35_drop_10 : decode cX35_drop 10 = .ok (.istore 4, 2) := dc_54 (a := 4) (by decide +kernel)
theorem dX35_drop_12 : decode cX35_drop 12 = .ok (.iconst 1, 1) := dc_4 (by decide +kernel)
theorem dX35_drop_13 : decode cX35_drop 13 = .ok (.istore 5, 2) := dc_54 (a := 5) (by decide +kernel)
theorem dX35_drop_15 : decode cX35_drop 15 = .ok (.iload 5, 2) := dc_21 (a := 5) (by decide +kernel)
theorem dX35_drop_17 : decode cX35_drop 17 = .ok (.ifCond .eq 184, 3) := dc_153 (a := 0) (b := 184) (v := 184) (by decide +kernel)
theorem dX35_drop_20 : decode cX35_drop 20 = .ok (.aload_n 0, 1) := dc_42 (by decide +kernel)
theorem dX35_drop_21 : decode cX35_drop 21 = .ok (.invokevirtual 506, 3) := dc_182 (a := 1) (b := 250) (n := 506) (by decide +kernel)
theorem dX35_drop_24 : decode cX35_drop 24 = .ok (.istore 6, 2) := dc_54 (a := 6) (by decide +kernel)
theorem dX35_drop_26 : decode cX35_drop 26 = .ok (.aload_n 0, 1) := dc_42 (by decide +kernel)
theorem dX35_drop_27 : decode cX35_drop 27 = .ok (.getfield 321, 3) := dc_180 (a := 1) (b := 65) (n := 321) (by decide +kernel)
theorem dX35_drop_30 : decode cX35_drop 30 = .ok (.ifCond .le 4, 3) := dc_158 (a := 0) (b := 4) (v := 4) (by decide +kernel)
theorem dX35_drop_33 : decode cX35_drop 33 = .ok (.return_, 1) := dc_177 (by decide +kernel)
theorem dX35_drop_34 : decode cX35_drop 34 = .ok (.aload_n 0, 1) := dc_42 (by decide +kernel)
theorem dX35_drop_35 : decode cX35_drop 35 = .ok (.iload 6, 2) := dc_21 (a := 6) (by decide +kernel)
theorem dX35_drop_37 : decode cX35_drop 37 = .ok (.invokevirtual 617, 3) := dc_182 (a := 2) (b := 105) (n := 617) (by decide +kernel)
theorem dX35_drop_40 : decode cX35_drop 40 = .ok (.ifCond .eq 9, 3) := dc_153 (a := 0) (b := 9) (v := 9) (by decide +kernel)
theorem dX35_drop_43 : decode cX35_drop 43 = .ok (.iinc 3 1, 3) := dc_132 (a := 3) (b := 1) (v := 1) (by decide +kernel)
theorem dX35_drop_46 : decode cX35_drop 46 = .ok (.goto 152, 3) := dc_167 (a := 0) (b := 152) (v := 152) (by decide +kernel)
theorem dX35_drop_49 : decode cX35_drop 49 = .ok (.aload_n 0, 1) := dc_42 (by decide +kernel)
theorem dX35_drop_50 : decode cX35_drop 50 = .ok (.iload 6, 2) := dc_21 (a := 6) (by decide +kernel)
theorem dX35_drop_52 : decode cX35_drop 52 = .ok (.bipush 21, 2) := dc_16 (a := 21) (v := 21) (by decide +kernel)
theorem dX35_drop_54 : decode cX35_drop 54 = .ok (.invokevirtual 554, 3) := dc_182 (a := 2) (b := 42) (n := 554) (by decide +kernel)
theorem dX35_drop_57 : decode cX35_drop 57 = .ok (.ifCond .eq 37, 3) := dc_153 (a := 0) (b := 37) (v := 37) (by decide +kernel)
theorem dX35_drop_60 : decode cX35_drop 60 = .ok (.iload_n 3, 1) := dc_29 (by decide +kernel)
theorem dX35_drop_61 : decode cX35_drop 61 = .ok (.ifCond .le 7, 3) := dc_158 (a := 0) (b := 7) (v := 7) (by decide +kernel)
theorem dX35_drop_64 : decode cX35_drop 64 = .ok (.iconst 1, 1) := dc_4 (by decide +kernel)
theorem dX35_drop_65 : decode cX35_drop 65 = .ok (.goto 4, 3) := dc_167 (a := 0) (b := 4) (v := 4) (by decide +kernel)
theorem dX35_drop_68 : decode cX35_drop 68 = .ok (.iconst 0, 1) := dc_3 (by decide +kernel)
theorem dX35_drop_69 : decode cX35_drop 69 = .ok (.istore 5, 2) := dc_54 (a := 5) (by decide +kernel)
theorem dX35_drop_71 : decode cX35_drop 71 = .ok (.aload_n 0, 1) := dc_42 (by decide +kernel)
theorem dX35_drop_72 : decode cX35_drop 72 = .ok (.iload 5, 2) := dc_21 (a := 5) (by decide +kernel)
theorem dX35_drop_74 : decode cX35_drop 74 = .ok (.ifCond .eq 10, 3) := dc_153 (a := 0) (b := 10) (v := 10) (by decide +kernel)
theorem dX35_drop_77 : decode cX35_drop 77 = .ok (.aload_n 0, 1) := dc_42 (by decide +kernel)
theorem dX35_drop_78 : decode cX35_drop 78 = .ok (.getfield 350, 3) := dc_180 (a := 1) (b := 94) (n := 350) (by decide +kernel)
theorem dX35_drop_81 : decode cX35_drop 81 = .ok (.goto 4, 3) := dc_167 (a := 0) (b := 4) (v := 4) (by decide +kernel)
theorem dX35_drop_84 : decode cX35_drop 84 = .ok (.iload_n 1, 1) := dc_27 (by decide +kernel)
theorem dX35_drop_85 : decode cX35_drop 85 = .ok (.putfield 350, 3) := dc_181 (a := 1) (b := 94) (n := 350) (by decide +kernel)
theorem dX35_drop_88 : decode cX35_drop 88 = .ok (.iinc 3 (-1), 3) := dc_132 (a := 3) (b := 255) (v := -1) (by decide +kernel)
theorem dX35_drop_91 : decode cX35_drop 91 = .ok (.goto 107, 3) := dc_167 (a := 0) (b := 107) (v := 107) (by decide +kernel)
theorem dX35_drop_94 : decode cX35_drop 94 = .ok (.iload_n 3, 1) := dc_29 (by decide +kernel)
theorem dX35_drop_95 : decode cX35_drop 95 = .ok (.ifCond .ne 34, 3) := dc_154 (a := 0) (b := 34) (v := 34) (by decide +kernel)
theorem dX35_drop_98 : decode cX35_drop 98 = .ok (.aload_n 0, 1) := dc_42 (by decide +kernel)
theorem dX35_drop_99 : decode cX35_drop 99 = .ok (.iload 6, 2) := dc_21 (a := 6) (by decide +kernel)
theorem dX35_drop_101 : decode cX35_drop 101 = .ok (.bipush 19, 2) := dc_16 (a := 19) (v := 19) (by decide +kernel)
theorem dX35_drop_103 : decode cX35_drop 103 = .ok (.invokevirtual 554, 3) := dc_182 (a := 2) (b := 42) (n := 554) (by decide +kernel)
theorem dX35_drop_106 : decode cX35_drop 106 = .ok (.ifCond .eq 23, 3) := dc_153 (a := 0) (b := 23) (v := 23) (by decide +kernel)
theorem dX35_drop_109 : decode cX35_drop 109 = .ok (.aload_n 0, 1) := dc_42 (by decide +kernel)
theorem dX35_drop_110 : decode cX35_drop 110 = .ok (.getfield 118, 3) := dc_180 (a := 0) (b := 118) (n := 118) (by decide +kernel)
theorem dX35_drop_113 : decode cX35_drop 113 = .ok (.iload_n 1, 1) := dc_27 (by decide +kernel)
theorem dX35_drop_114 : decode cX35_drop 114 = .ok (.iconst 2, 1) := dc_5 (by decide +kernel)
theorem dX35_drop_115 : decode cX35_drop 115 = .ok (.iastore, 1) := dc_79 (by decide +kernel)
theorem dX35_drop_116 : decode cX35_drop 116 = .ok (.aload_n 0, 1) := dc_42 (by decide +kernel)
theorem dX35_drop_117 : decode cX35_drop 117 = .ok (.iload_n 1, 1) := dc_27 (by decide +kernel)
theorem dX35_drop_118 : decode cX35_drop 118 = .ok (.iconst 1, 1) := dc_4 (by decide +kernel)
theorem dX35_drop_119 : decode cX35_drop 119 = .ok (.iadd, 1) := dc_96 (by decide +kernel)
theorem dX35_drop_120 : decode cX35_drop 120 = .ok (.putfield 350, 3) := dc_181 (a := 1) (b := 94) (n := 350) (by decide +kernel)
theorem dX35_drop_123 : decode cX35_drop 123 = .ok (.iconst 0, 1) := dc_3 (by decide +kernel)
theorem dX35_drop_124 : decode cX35_drop 124 = .ok (.istore 5, 2) := dc_54 (a := 5) (by decide +kernel)
theorem dX35_drop_126 : decode cX35_drop 126 = .ok (.goto 72, 3) := dc_167 (a := 0) (b := 72) (v := 72) (by decide +kernel)
theorem dX35_drop_129 : decode cX35_drop 129 = .ok (.iload_n 3, 1) := dc_29 (by decide +kernel)
theorem dX35_drop_130 : decode cX35_drop 130 = .ok (.ifCond .ne 68, 3) := dc_154 (a := 0) (b := 68) (v := 68) (by decide +kernel)
theorem dX35_drop_133 : decode cX35_drop 133 = .ok (.aload_n 0, 1) := dc_42 (by decide +kernel)
theorem dX35_drop_134 : decode cX35_drop 134 = .ok (.iload 6, 2) := dc_21 (a := 6) (by decide +kernel)
theorem dX35_drop_136 : decode cX35_drop 136 = .ok (.bipush 20, 2) := dc_16 (a := 20) (v := 20) (by decide +kernel)
theorem dX35_drop_138 : decode cX35_drop 138 = .ok (.invokevirtual 554, 3) := dc_182 (a := 2) (b := 42) (n := 554) (by decide +kernel)
theorem dX35_drop_141 : decode cX35_drop 141 = .ok (.ifCond .eq 57, 3) := dc_153 (a := 0) (b := 57) (v := 57) (by decide +kernel)
theorem dX35_drop_144 : decode cX35_drop 144 = .ok (.aload_n 0, 1) := dc_42 (by decide +kernel)
theorem dX35_drop_145 : decode cX35_drop 145 = .ok (.getfield 115, 3) := dc_180 (a := 0) (b := 115) (n := 115) (by decide +kernel)
theorem dX35_drop_148 : decode cX35_drop 148 = .ok (.iload_n 1, 1) := dc_27 (by decide +kernel)
theorem dX35_drop_149 : decode cX35_drop 149 = .ok (.baload, 1) := dc_51 (by decide +kernel)
theorem dX35_drop_150 : decode cX35_drop 150 = .ok (.ifCond .ne 9, 3) := dc_154 (a := 0) (b := 9) (v := 9) (by decide +kernel)
theorem dX35_drop_153 : decode cX35_drop 153 = .ok (.aload_n 0, 1) := dc_42 (by decide +kernel)
theorem dX35_drop_154 : decode cX35_drop 154 = .ok (.bipush 8, 2) := dc_16 (a := 8) (v := 8) (by decide +kernel)
theorem dX35_drop_156 : decode cX35_drop 156 = .ok (.invokevirtual 428, 3) := dc_182 (a := 1) (b := 172) (n := 428) (by decide +kernel)
theorem dX35_drop_159 : decode cX35_drop 159 = .ok (.iinc 4 1, 3) := dc_132 (a := 4) (b := 1) (v := 1) (by decide +kernel)
theorem dX35_drop_162 : decode cX35_drop 162 = .ok (.iload_n 2, 1) := dc_28 (by decide +kernel)
theorem dX35_drop_163 : decode cX35_drop 163 = .ok (.ifCond .lt 9, 3) := dc_155 (a := 0) (b := 9) (v := 9) (by decide +kernel)
theorem dX35_drop_166 : decode cX35_drop 166 = .ok (.iload 4, 2) := dc_21 (a := 4) (by decide +kernel)
theorem dX35_drop_168 : decode cX35_drop 168 = .ok (.iload_n 2, 1) := dc_28 (by decide +kernel)
theorem dX35_drop_169 : decode cX35_drop 169 = .ok (.if_icmp .eq 7, 3) := dc_159 (a := 0) (b := 7) (v := 7) (by decide +kernel)
theorem dX35_drop_172 : decode cX35_drop 172 = .ok (.iconst 1, 1) := dc_4 (by decide +kernel)
theorem dX35_drop_173 : decode cX35_drop 173 = .ok (.goto 4, 3) := dc_167 (a := 0) (b := 4) (v := 4) (by decide +kernel)
theorem dX35_drop_176 : decode cX35_drop 176 = .ok (.iconst 0, 1) := dc_3 (by decide +kernel)
theorem dX35_drop_177 : decode cX35_drop 177 = .ok (.istore 5, 2) := dc_54 (a := 5) (by decide +kernel)
theorem dX35_drop_179 : decode cX35_drop 179 = .ok (.aload_n 0, 1) := dc_42 (by decide +kernel)
theorem dX35_drop_180 : decode cX35_drop 180 = .ok (.iload 5, 2) := dc_21 (a := 5) (by decide +kernel)
theorem dX35_drop_182 : decode cX35_drop 182 = .ok (.ifCond .eq 10, 3) := dc_153 (a := 0) (b := 10) (v := 10) (by decide +kernel)
theorem dX35_drop_185 : decode cX35_drop 185 = .ok (.aload_n 0, 1) := dc_42 (by decide +kernel)
theorem dX35_drop_186 : decode cX35_drop 186 = .ok (.getfield 350, 3) := dc_180 (a := 1) (b := 94) (n := 350) (by decide +kernel)
theorem dX35_drop_189 : decode cX35_drop 189 = .ok (.goto 6, 3) := dc_167 (a := 0) (b := 6) (v := 6) (by decide +kernel)
theorem dX35_drop_192 : decode cX35_drop 192 = .ok (.iload_n 1, 1) := dc_27 (by decide +kernel)
theorem dX35_drop_193 : decode cX35_drop 193 = .ok (.iconst 1, 1) := dc_4 (by decide +kernel)
theorem dX35_drop_194 : decode cX35_drop 194 = .ok (.iadd, 1) := dc_96 (by decide +kernel)
theorem dX35_drop_195 : decode cX35_drop 195 = .ok (.putfield 350, 3) := dc_181 (a := 1) (b := 94) (n := 350) (by decide +kernel)
theorem dX35_drop_198 : decode cX35_drop 198 = .ok (.goto (-183), 3) := dc_167 (a := 255) (b := 73) (v := -183) (by decide +kernel)
theorem dX35_drop_201 : decode cX35_drop 201 = .ok (.return_, 1) := dc_177 (by decide +kernel)
def fX35_drop_b198 (N : Nat) (k15 : Nat → Int32 → Int32 → Int32 → Int32 → Int32 → eH → Option (Unit × eH)) (l0 : Nat) (l1 : Int32) (l2 : Int32) (l3 : Int32) (l4 : Int32) (l5 : Int32) (h : eH) : Option (Unit × eH) :=
  k15 l0 l1 l2 l3 l4 l5 h
theorem pX35_drop_b198 {w : eW} {d : Nat} (hd : 6 ≤ d + 1) {N : Nat} {k15 : Nat → Int32 → Int32 → Int32 → Int32 → Int32 → eH → Option (Unit × eH)} (hk15 : ∀ l0 l1 l2 l3 l4 l5 h q, k15 l0 l1 l2 l3 l4 l5 h = some q → wp w (d + 1) YX35_drop 15 [some (.ref l0), some (.int l1), some (.int l2), some (.int l3), some (.int l4), some (.int l5), none] [] h (e_is (e_rn c_V q))) {l0 : Nat} {l1 : Int32} {l2 : Int32} {l3 : Int32} {l4 : Int32} {l5 : Int32} {h : eH} {q} (hf : fX35_drop_b198 N k15 l0 l1 l2 l3 l4 l5 h = some q) : wp w (d + 1) YX35_drop 198 [some (.ref l0), some (.int l1), some (.int l2), some (.int l3), some (.int l4), some (.int l5), none] [] h (e_is (e_rn c_V q)) := by
  unfold fX35_drop_b198 at hf
  refine w_goto 15 dX35_drop_198 (by decide) ?_
  exact (hk15 _ _ _ _ _ _ _ _ hf).to ⟨rfl, rfl, rfl, rfl, rfl, rfl, trivial⟩
def fX35_drop_b85 (N : Nat) (k15 : Nat → Int32 → Int32 → Int32 → Int32 → Int32 → eH → Option (Unit × eH)) (l0 : Nat) (l1 : Int32) (l2 : Int32) (l3 : Int32) (l4 : Int32) (l5 : Int32) (s0 : Nat) (s1 : Int32) (h : eH) : Option (Unit × eH) :=
  (p_V 34 h s0 41 (.int s1)).bind fun h1 =>
  fX35_drop_b198 N k15 l0 l1 l2 (l3 + (-1 : Int32)) l4 l5 h1
theorem pX35_drop_b85 {w : eW} {d : Nat} (hd : 6 ≤ d + 1) {N : Nat} {k15 : Nat → Int32 → Int32 → Int32 → Int32 → Int32 → eH → Option (Unit × eH)} (hk15 : ∀ l0 l1 l2 l3 l4 l5 h q, k15 l0 l1 l2 l3 l4 l5 h = some q → wp w (d + 1) YX35_drop 15 [some (.ref l0), some (.int l1), some (.int l2), some (.int l3), some (.int l4), some (.int l5), none] [] h (e_is (e_rn c_V q))) {l0 : Nat} {l1 : Int32} {l2 : Int32} {l3 : Int32} {l4 : Int32} {l5 : Int32} {s0 : Nat} {s1 : Int32} {h : eH} {q} (hf : fX35_drop_b85 N k15 l0 l1 l2 l3 l4 l5 s0 s1 h = some q) : wp w (d + 1) YX35_drop 85 [some (.ref l0), some (.int l1), some (.int l2), some (.int l3), some (.int l4), some (.int l5), none] [.int s1, .ref s0] h (e_is (e_rn c_V q)) := by
  unfold fX35_drop_b85 at hf
  obtain ⟨h1, b2, hf⟩ := Option.bind_eq_some_iff.mp hf
  refine SX35_350 b2 dX35_drop_85 rfl ?_
  refine w_iinc dX35_drop_88 (v := (l3 + (-1 : Int32))) rfl rfl (by decide) (ls' := [some (.ref l0), some (.int l1), some (.int l2), some (.int (l3 + (-1 : Int32))), some (.int l4), some (.int l5), none]) rfl ?_
  refine w_goto 198 dX35_drop_91 (by decide) ?_
  exact (pX35_drop_b198 hd hk15 hf).to ⟨rfl, rfl, rfl, rfl, rfl, rfl, trivial⟩
def fX35_drop_b69 (N : Nat) (k15 : Nat → Int32 → Int32 → Int32 → Int32 → Int32 → eH → Option (Unit × eH)) (l0 : Nat) (l1 : Int32) (l2 : Int32) (l3 : Int32) (l4 : Int32) (s0 : Int32) (h : eH) : Option (Unit × eH) :=
  if s0 = 0 then
    fX35_drop_b85 N k15 l0 l1 l2 l3 l4 s0 l0 l1 h
  else
    (g_I 34 h l0 41).bind fun x2 =>
    fX35_drop_b85 N k15 l0 l1 l2 l3 l4 s0 l0 x2 h
theorem pX35_drop_b69 {w : eW} {d : Nat} (hd : 6 ≤ d + 1) {N : Nat} {k15 : Nat → Int32 → Int32 → Int32 → Int32 → Int32 → eH → Option (Unit × eH)} (hk15 : ∀ l0 l1 l2 l3 l4 l5 h q, k15 l0 l1 l2 l3 l4 l5 h = some q → wp w (d + 1) YX35_drop 15 [some (.ref l0), some (.int l1), some (.int l2), some (.int l3), some (.int l4), some (.int l5), none] [] h (e_is (e_rn c_V q))) {l0 : Nat} {l1 : Int32} {l2 : Int32} {l3 : Int32} {l4 : Int32} {s0 : Int32} {h : eH} {q} (hf : fX35_drop_b69 N k15 l0 l1 l2 l3 l4 s0 h = some q) : wp w (d + 1) YX35_drop 69 [some (.ref l0), some (.int l1), some (.int l2), some (.int l3), some (.int l4), none, none] [.int s0] h (e_is (e_rn c_V q)) := by
  unfold fX35_drop_b69 at hf
  refine w_istore dX35_drop_69 (by decide) (ls' := [some (.ref l0), some (.int l1), some (.int l2), some (.int l3), some (.int l4), some (.int s0), none]) rfl ?_
  refine w_aload_n dX35_drop_71 rfl rfl ?_
  refine w_iload dX35_drop_72 rfl ?_
  refine w_if_eq 84 dX35_drop_74 (by decide) (fun c1 => ?_) (fun c1 => ?_)
  · replace hf := (if_pos (show s0 = 0 from c1)).symm.trans hf
    refine w_iload_n dX35_drop_84 rfl rfl ?_
    exact (pX35_drop_b85 hd hk15 hf).to ⟨rfl, rfl, rfl, rfl, rfl, rfl, trivial⟩
  · replace hf := (if_neg (show ¬ (s0 = 0) from c1)).symm.trans hf
    refine w_aload_n dX35_drop_77 rfl rfl ?_
    obtain ⟨x2, b3, hf⟩ := Option.bind_eq_some_iff.mp hf
    refine GX35_350 b3 dX35_drop_78 rfl ?_
    refine w_goto 85 dX35_drop_81 (by decide) ?_
    exact (pX35_drop_b85 hd hk15 hf).to ⟨rfl, rfl, rfl, rfl, rfl, rfl, trivial⟩
def fX35_drop_b195 (N : Nat) (k15 : Nat → Int32 → Int32 → Int32 → Int32 → Int32 → eH → Option (Unit × eH)) (l0 : Nat) (l1 : Int32) (l2 : Int32) (l3 : Int32) (l4 : Int32) (l5 : Int32) (s0 : Nat) (s1 : Int32) (h : eH) : Option (Unit × eH) :=
  (p_V 34 h s0 41 (.int s1)).bind fun h1 =>
  fX35_drop_b198 N k15 l0 l1 l2 l3 l4 l5 h1
theorem pX35_drop_b195 {w : eW} {d : Nat} (hd : 6 ≤ d + 1) {N : Nat} {k15 : Nat → Int32 → Int32 → Int32 → Int32 → Int32 → eH → Option (Unit × eH)} (hk15 : ∀ l0 l1 l2 l3 l4 l5 h q, k15 l0 l1 l2 l3 l4 l5 h = some q → wp w (d + 1) YX35_drop 15 [some (.ref l0), some (.int l1), some (.int l2), some (.int l3), some (.int l4), some (.int l5), none] [] h (e_is (e_rn c_V q))) {l0 : Nat} {l1 : Int32} {l2 : Int32} {l3 : Int32} {l4 : Int32} {l5 : Int32} {s0 : Nat} {s1 : Int32} {h : eH} {q} (hf : fX35_drop_b195 N k15 l0 l1 l2 l3 l4 l5 s0 s1 h = some q) : wp w (d + 1) YX35_drop 195 [some (.ref l0), some (.int l1), some (.int l2), some (.int l3), some (.int l4), some (.int l5), none] [.int s1, .ref s0] h (e_is (e_rn c_V q)) := by
  unfold fX35_drop_b195 at hf
  obtain ⟨h1, b2, hf⟩ := Option.bind_eq_some_iff.mp hf
  refine SX35_350 b2 dX35_drop_195 rfl ?_
  exact (pX35_drop_b198 hd hk15 hf).to ⟨rfl, rfl, rfl, rfl, rfl, rfl, trivial⟩
def fX35_drop_b177 (N : Nat) (k15 : Nat → Int32 → Int32 → Int32 → Int32 → Int32 → eH → Option (Unit × eH)) (l0 : Nat) (l1 : Int32) (l2 : Int32) (l3 : Int32) (l4 : Int32) (s0 : Int32) (h : eH) : Option (Unit × eH) :=
  if s0 = 0 then
    fX35_drop_b195 N k15 l0 l1 l2 l3 l4 s0 l0 (l1 + (1 : Int32)) h
  else
    (g_I 34 h l0 41).bind fun x2 =>
    fX35_drop_b195 N k15 l0 l1 l2 l3 l4 s0 l0 x2 h
theorem pX35_drop_b177 {w : eW} {d : Nat} (hd : 6 ≤ d + 1) {N : Nat} {k15 : Nat → Int32 → Int32 → Int32 → Int32 → Int32 → eH → Option (Unit × eH)} (hk15 : ∀ l0 l1 l2 l3 l4 l5 h q, k15 l0 l1 l2 l3 l4 l5 h = some q → wp w (d + 1) YX35_drop 15 [some (.ref l0), some (.int l1), some (.int l2), some (.int l3), some (.int l4), some (.int l5), none] [] h (e_is (e_rn c_V q))) {l0 : Nat} {l1 : Int32} {l2 : Int32} {l3 : Int32} {l4 : Int32} {s0 : Int32} {h : eH} {q} (hf : fX35_drop_b177 N k15 l0 l1 l2 l3 l4 s0 h = some q) : wp w (d + 1) YX35_drop 177 [some (.ref l0), some (.int l1), some (.int l2), some (.int l3), some (.int l4), none, none] [.int s0] h (e_is (e_rn c_V q)) := by
  unfold fX35_drop_b177 at hf
  refine w_istore dX35_drop_177 (by decide) (ls' := [some (.ref l0), some (.int l1), some (.int l2), some (.int l3), some (.int l4), some (.int s0), none]) rfl ?_
  refine w_aload_n dX35_drop_179 rfl rfl ?_
  refine w_iload dX35_drop_180 rfl ?_
  refine w_if_eq 192 dX35_drop_182 (by decide) (fun c1 => ?_) (fun c1 => ?_)
  · replace hf := (if_pos (show s0 = 0 from c1)).symm.trans hf
    refine w_iload_n dX35_drop_192 rfl rfl ?_
    refine w_iconst dX35_drop_193 (v := 1) (by decide) ?_
    refine w_iadd dX35_drop_194 ?_
    exact (pX35_drop_b195 hd hk15 hf).to ⟨rfl, rfl, rfl, rfl, rfl, rfl, trivial⟩
  · replace hf := (if_neg (show ¬ (s0 = 0) from c1)).symm.trans hf
    refine w_aload_n dX35_drop_185 rfl rfl ?_
    obtain ⟨x2, b3, hf⟩ := Option.bind_eq_some_iff.mp hf
    refine GX35_350 b3 dX35_drop_186 rfl ?_
    refine w_goto 195 dX35_drop_189 (by decide) ?_
    exact (pX35_drop_b195 hd hk15 hf).to ⟨rfl, rfl, rfl, rfl, rfl, rfl, trivial⟩
def fX35_drop_b172 (N : Nat) (k15 : Nat → Int32 → Int32 → Int32 → Int32 → Int32 → eH → Option (Unit × eH)) (l0 : Nat) (l1 : Int32) (l2 : Int32) (l3 : Int32) (l4 : Int32) (h : eH) : Option (Unit × eH) :=
  fX35_drop_b177 N k15 l0 l1 l2 l3 l4 (1 : Int32) h
theorem pX35_drop_b172 {w : eW} {d : Nat} (hd : 6 ≤ d + 1) {N : Nat} {k15 : Nat → Int32 → Int32 → Int32 → Int32 → Int32 → eH → Option (Unit × eH)} (hk15 : ∀ l0 l1 l2 l3 l4 l5 h q, k15 l0 l1 l2 l3 l4 l5 h = some q → wp w (d + 1) YX35_drop 15 [some (.ref l0), some (.int l1), some (.int l2), some (.int l3), some (.int l4), some (.int l5), none] [] h (e_is (e_rn c_V q))) {l0 : Nat} {l1 : Int32} {l2 : Int32} {l3 : Int32} {l4 : Int32} {h : eH} {q} (hf : fX35_drop_b172 N k15 l0 l1 l2 l3 l4 h = some q) : wp w (d + 1) YX35_drop 172 [some (.ref l0), some (.int l1), some (.int l2), some (.int l3), some (.int l4), none, none] [] h (e_is (e_rn c_V q)) := by
  unfold fX35_drop_b172 at hf
  refine w_iconst dX35_drop_172 (v := 1) (by decide) ?_
  refine w_goto 177 dX35_drop_173 (by decide) ?_
  exact (pX35_drop_b177 hd hk15 hf).to ⟨rfl, rfl, rfl, rfl, rfl, trivial⟩
def fX35_drop_b159 (N : Nat) (k15 : Nat → Int32 → Int32 → Int32 → Int32 → Int32 → eH → Option (Unit × eH)) (l0 : Nat) (l1 : Int32) (l2 : Int32) (l3 : Int32) (l4 : Int32) (h : eH) : Option (Unit × eH) :=
  if l2 < 0 then
    fX35_drop_b172 N k15 l0 l1 l2 l3 (l4 + (1 : Int32)) h
  else
    if (l4 + (1 : Int32)) = l2 then
      fX35_drop_b177 N k15 l0 l1 l2 l3 (l4 + (1 : Int32)) (0 : Int32) h
    else
      fX35_drop_b172 N k15 l0 l1 l2 l3 (l4 + (1 : Int32)) h
theorem pX35_drop_b159 {w : eW} {d : Nat} (hd : 6 ≤ d + 1) {N : Nat} {k15 : Nat → Int32 → Int32 → Int32 → Int32 → Int32 → eH → Option (Unit × eH)} (hk15 : ∀ l0 l1 l2 l3 l4 l5 h q, k15 l0 l1 l2 l3 l4 l5 h = some q → wp w (d + 1) YX35_drop 15 [some (.ref l0), some (.int l1), some (.int l2), some (.int l3), some (.int l4), some (.int l5), none] [] h (e_is (e_rn c_V q))) {l0 : Nat} {l1 : Int32} {l2 : Int32} {l3 : Int32} {l4 : Int32} {h : eH} {q} (hf : fX35_drop_b159 N k15 l0 l1 l2 l3 l4 h = some q) : wp w (d + 1) YX35_drop 159 [some (.ref l0), some (.int l1), some (.int l2), some (.int l3), some (.int l4), none, none] [] h (e_is (e_rn c_V q)) := by
  unfold fX35_drop_b159 at hf
  refine w_iinc dX35_drop_159 (v := (l4 + (1 : Int32))) rfl rfl (by decide) (ls' := [some (.ref l0), some (.int l1), some (.int l2), some (.int l3), some (.int (l4 + (1 : Int32))), none, none]) rfl ?_
  refine w_iload_n dX35_drop_162 rfl rfl ?_
  refine w_if_lt 172 dX35_drop_163 (by decide) (fun c1 => ?_) (fun c1 => ?_)
  · replace hf := (if_pos (show l2 < 0 from c1)).symm.trans hf
    exact (pX35_drop_b172 hd hk15 hf).to ⟨rfl, rfl, rfl, rfl, rfl, trivial⟩
  · replace hf := (if_neg (show ¬ (l2 < 0) from c1)).symm.trans hf
    refine w_iload dX35_drop_166 rfl ?_
    refine w_iload_n dX35_drop_168 rfl rfl ?_
    refine w_icmp_eq 176 dX35_drop_169 (by decide) (fun c2 => ?_) (fun c2 => ?_)
    · replace hf := (if_pos (show (l4 + (1 : Int32)) = l2 from c2)).symm.trans hf
      refine w_iconst dX35_drop_176 (v := 0) (by decide) ?_
      exact (pX35_drop_b177 hd hk15 hf).to ⟨rfl, rfl, rfl, rfl, rfl, trivial⟩
    · replace hf := (if_neg (show ¬ ((l4 + (1 : Int32)) = l2) from c2)).symm.trans hf
      exact (pX35_drop_b172 hd hk15 hf).to ⟨rfl, rfl, rfl, rfl, rfl, trivial⟩
def fX35_drop_b129 (N : Nat) (k15 : Nat → Int32 → Int32 → Int32 → Int32 → Int32 → eH → Option (Unit × eH)) (l0 : Nat) (l1 : Int32) (l2 : Int32) (l3 : Int32) (l4 : Int32) (l5 : Int32) (l6 : Int32) (h : eH) : Option (Unit × eH) :=
  if ¬ l3 = 0 then
    fX35_drop_b198 N k15 l0 l1 l2 l3 l4 l5 h
  else
    (k_ok 34 h l0).bind fun _ =>
    (fX35_means l0 l6 (20 : Int32) h).bind fun q3 =>
    if q3.1 = 0 then
      fX35_drop_b198 N k15 l0 l1 l2 l3 l4 l5 q3.2
    else
      (g_A 34 q3.2 l0 42).bind fun a5 =>
      (r_I 103 q3.2 a5 l1).bind fun x7 =>
      if ¬ x7 = 0 then
        fX35_drop_b159 N k15 l0 l1 l2 l3 l4 q3.2
      else
        (k_ok 34 q3.2 l0).bind fun _ =>
        (fX35_fail l0 (8 : Int32) q3.2).bind fun q11 =>
        fX35_drop_b159 N k15 l0 l1 l2 l3 l4 q11.2
theorem pX35_drop_b129 {w : eW} {d : Nat} (hd : 6 ≤ d + 1) {N : Nat} {k15 : Nat → Int32 → Int32 → Int32 → Int32 → Int32 → eH → Option (Unit × eH)} (hk15 : ∀ l0 l1 l2 l3 l4 l5 h q, k15 l0 l1 l2 l3 l4 l5 h = some q → wp w (d + 1) YX35_drop 15 [some (.ref l0), some (.int l1), some (.int l2), some (.int l3), some (.int l4), some (.int l5), none] [] h (e_is (e_rn c_V q))) {l0 : Nat} {l1 : Int32} {l2 : Int32} {l3 : Int32} {l4 : Int32} {l5 : Int32} {l6 : Int32} {h : eH} {q} (hf : fX35_drop_b129 N k15 l0 l1 l2 l3 l4 l5 l6 h = some q) : wp w (d + 1) YX35_drop 129 [some (.ref l0), some (.int l1), some (.int l2), some (.int l3), some (.int l4), some (.int l5), some (.int l6)] [] h (e_is (e_rn c_V q)) := by
  unfold fX35_drop_b129 at hf
  refine w_iload_n dX35_drop_129 rfl rfl ?_
  refine w_if_ne 198 dX35_drop_130 (by decide) (fun c1 => ?_) (fun c1 => ?_)
  · replace hf := (if_pos (show ¬ l3 = 0 from c1)).symm.trans hf
    exact (pX35_drop_b198 hd hk15 hf).to ⟨rfl, rfl, rfl, rfl, rfl, rfl, trivial⟩
  · replace hf := (if_neg (show ¬ (¬ l3 = 0) from (fun z => z c1))).symm.trans hf
    refine w_aload_n dX35_drop_133 rfl rfl ?_
    refine w_iload dX35_drop_134 rfl ?_
    refine w_bipush dX35_drop_136 (v := 20) (by decide) ?_
    obtain ⟨_, b2, hf⟩ := Option.bind_eq_some_iff.mp hf
    refine x_cnI hf (e_stV (Yc := YX35_means) (ci := 34) (av := [.int l6, .int (20 : Int32)]) (st := []) dX35_drop_138 q5197 mX35_means rfl (k_ok_some b2).1 (k_ok_some b2).2) mX35_means.2.2.1 mX35_means.2.2.2.2.1 (Nat.le_of_ble_eq_true rfl) (Nat.le_of_ble_eq_true rfl) (fun q hq => pX35_means (by omega) hq) (fun q3 hf => ?_)
    refine w_if_eq 198 dX35_drop_141 (by decide) (fun c4 => ?_) (fun c4 => ?_)
    · replace hf := (if_pos (show q3.1 = 0 from c4)).symm.trans hf
      exact (pX35_drop_b198 hd hk15 hf).to ⟨rfl, rfl, rfl, rfl, rfl, rfl, trivial⟩
    · replace hf := (if_neg (show ¬ (q3.1 = 0) from c4)).symm.trans hf
      refine w_aload_n dX35_drop_144 rfl rfl ?_
      obtain ⟨a5, b6, hf⟩ := Option.bind_eq_some_iff.mp hf
      refine GX35_115 b6 dX35_drop_145 rfl ?_
      refine w_iload_n dX35_drop_148 rfl rfl ?_
      obtain ⟨x7, b8, hf⟩ := Option.bind_eq_some_iff.mp hf
      refine x_rZ b8 dX35_drop_149 ?_
      refine w_if_ne 159 dX35_drop_150 (by decide) (fun c9 => ?_) (fun c9 => ?_)
      · replace hf := (if_pos (show ¬ x7 = 0 from c9)).symm.trans hf
        exact (pX35_drop_b159 hd hk15 hf).to ⟨rfl, rfl, rfl, rfl, rfl, trivial⟩
      · replace hf := (if_neg (show ¬ (¬ x7 = 0) from (fun z => z c9))).symm.trans hf
        refine w_aload_n dX35_drop_153 rfl rfl ?_
        refine w_bipush dX35_drop_154 (v := 8) (by decide) ?_
        obtain ⟨_, b10, hf⟩ := Option.bind_eq_some_iff.mp hf
        refine x_cnV hf (e_stV (Yc := YX35_fail) (ci := 34) (av := [.int (8 : Int32)]) (st := []) dX35_drop_156 q5109 mX35_fail rfl (k_ok_some b10).1 (k_ok_some b10).2) mX35_fail.2.2.1 mX35_fail.2.2.2.2.1 (Nat.le_of_ble_eq_true rfl) (Nat.le_of_ble_eq_true rfl) (fun q hq => pX35_fail (by omega) hq) (fun q11 hf => ?_)
        exact (pX35_drop_b159 hd hk15 hf).to ⟨rfl, rfl, rfl, rfl, rfl, trivial⟩
def fX35_drop_b15 (N : Nat) : Nat → Nat → Int32 → Int32 → Int32 → Int32 → Int32 → eH → Option (Unit × eH)
  | 0, _, _, _, _, _, _, _ => none
  | n + 1, l0, l1, l2, l3, l4, l5, h =>
    if l5 = 0 then
      some ((), h)
    else
      (k_ok 34 h l0).bind fun _ =>
      (fX35_need N l0 h).bind fun q3 =>
      (g_I 34 q3.2 l0 46).bind fun x4 =>
      if x4 ≤ 0 then
        (k_ok 34 q3.2 l0).bind fun _ =>
        (fX35_isCondition l0 q3.1 q3.2).bind fun q8 =>
        if q8.1 = 0 then
          (k_ok 34 q8.2 l0).bind fun _ =>
          (fX35_means l0 q3.1 (21 : Int32) q8.2).bind fun q11 =>
          if q11.1 = 0 then
            if ¬ l3 = 0 then
              fX35_drop_b129 N (fX35_drop_b15 N n) l0 l1 l2 l3 l4 l5 q3.1 q11.2
            else
              (k_ok 34 q11.2 l0).bind fun _ =>
              (fX35_means l0 q3.1 (19 : Int32) q11.2).bind fun q15 =>
              if q15.1 = 0 then
                fX35_drop_b129 N (fX35_drop_b15 N n) l0 l1 l2 l3 l4 l5 q3.1 q15.2
              else
                (g_A 34 q15.2 l0 43).bind fun a17 =>
                (q_V 100 q15.2 a17 l1 (.int (2 : Int32))).bind fun h19 =>
                (p_V 34 h19 l0 41 (.int (l1 + (1 : Int32)))).bind fun h21 =>
                fX35_drop_b198 N (fX35_drop_b15 N n) l0 l1 l2 l3 l4 (0 : Int32) h21
          else
            if l3 ≤ 0 then
              fX35_drop_b69 N (fX35_drop_b15 N n) l0 l1 l2 l3 l4 (0 : Int32) q11.2
            else
              fX35_drop_b69 N (fX35_drop_b15 N n) l0 l1 l2 l3 l4 (1 : Int32) q11.2
        else
          fX35_drop_b198 N (fX35_drop_b15 N n) l0 l1 l2 (l3 + (1 : Int32)) l4 l5 q8.2
      else
        some ((), q3.2)
theorem pX35_drop_b15 {w : eW} {d : Nat} (hd : 6 ≤ d + 1) {N : Nat} : ∀ (n : Nat) l0 l1 l2 l3 l4 l5 h q, fX35_drop_b15 N n l0 l1 l2 l3 l4 l5 h = some q → wp w (d + 1) YX35_drop 15 [some (.ref l0), some (.int l1), some (.int l2), some (.int l3), some (.int l4), some (.int l5), none] [] h (e_is (e_rn c_V q)) := by
  intro n
  induction n with
  | zero => intro l0 l1 l2 l3 l4 l5 h q hf; simp [fX35_drop_b15] at hf
  | succ n ih =>
    intro l0 l1 l2 l3 l4 l5 h q hf
    rw [fX35_drop_b15] at hf
    refine w_iload dX35_drop_15 rfl ?_
    refine w_if_eq 201 dX35_drop_17 (by decide) (fun c1 => ?_) (fun c1 => ?_)
    · replace hf := (if_pos (show l5 = 0 from c1)).symm.trans hf
      cases hf
      exact w_vret dX35_drop_201 rfl rfl
    · replace hf := (if_neg (show ¬ (l5 = 0) from c1)).symm.trans hf
      refine w_aload_n dX35_drop_20 rfl rfl ?_
      obtain ⟨_, b2, hf⟩ := Option.bind_eq_some_iff.mp hf
      refine x_cnI hf (e_stV (Yc := YX35_need) (ci := 34) (av := []) (st := []) dX35_drop_21 q5154 mX35_need rfl (k_ok_some b2).1 (k_ok_some b2).2) mX35_need.2.2.1 mX35_need.2.2.2.2.1 (Nat.le_of_ble_eq_true rfl) (Nat.le_of_ble_eq_true rfl) (fun q hq => pX35_need (by omega) hq) (fun q3 hf => ?_)
      refine w_istore dX35_drop_24 (by decide) (ls' := [some (.ref l0), some (.int l1), some (.int l2), some (.int l3), some (.int l4), some (.int l5), some (.int q3.1)]) rfl ?_
      refine w_aload_n dX35_drop_26 rfl rfl ?_
      obtain ⟨x4, b5, hf⟩ := Option.bind_eq_some_iff.mp hf
      refine GX35_321 b5 dX35_drop_27 rfl ?_
      refine w_if_le 34 dX35_drop_30 (by decide) (fun c6 => ?_) (fun c6 => ?_)
      · replace hf := (if_pos (show x4 ≤ 0 from c6)).symm.trans hf
        refine w_aload_n dX35_drop_34 rfl rfl ?_
        refine w_iload dX35_drop_35 rfl ?_
        obtain ⟨_, b7, hf⟩ := Option.bind_eq_some_iff.mp hf
        refine x_cnI hf (e_stV (Yc := YX35_isCondition) (ci := 34) (av := [.int q3.1]) (st := []) dX35_drop_37 q5321 mX35_isCondition rfl (k_ok_some b7).1 (k_ok_some b7).2) mX35_isCondition.2.2.1 mX35_isCondition.2.2.2.2.1 (Nat.le_of_ble_eq_true rfl) (Nat.le_of_ble_eq_true rfl) (fun q hq => pX35_isCondition (by omega) hq) (fun q8 hf => ?_)
        refine w_if_eq 49 dX35_drop_40 (by decide) (fun c9 => ?_) (fun c9 => ?_)
        · replace hf := (if_pos (show q8.1 = 0 from c9)).symm.trans hf
          refine w_aload_n dX35_drop_49 rfl rfl ?_
          refine w_iload dX35_drop_50 rfl ?_
          refine w_bipush dX35_drop_52 (v := 21) (by decide) ?_
          obtain ⟨_, b10, hf⟩ := Option.bind_eq_some_iff.mp hf
          refine x_cnI hf (e_stV (Yc := YX35_means) (ci := 34) (av := [.int q3.1, .int (21 : Int32)]) (st := []) dX35_drop_54 q5197 mX35_means rfl (k_ok_some b10).1 (k_ok_some b10).2) mX35_means.2.2.1 mX35_means.2.2.2.2.1 (Nat.le_of_ble_eq_true rfl) (Nat.le_of_ble_eq_true rfl) (fun q hq => pX35_means (by omega) hq) (fun q11 hf => ?_)
          refine w_if_eq 94 dX35_drop_57 (by decide) (fun c12 => ?_) (fun c12 => ?_)
          · replace hf := (if_pos (show q11.1 = 0 from c12)).symm.trans hf
            refine w_iload_n dX35_drop_94 rfl rfl ?_
            refine w_if_ne 129 dX35_drop_95 (by decide) (fun c13 => ?_) (fun c13 => ?_)
            · replace hf := (if_pos (show ¬ l3 = 0 from c13)).symm.trans hf
              exact (pX35_drop_b129 hd ih hf).to ⟨rfl, rfl, rfl, rfl, rfl, rfl, rfl, trivial⟩
            · replace hf := (if_neg (show ¬ (¬ l3 = 0) from (fun z => z c13))).symm.trans hf
              refine w_aload_n dX35_drop_98 rfl rfl ?_
              refine w_iload dX35_drop_99 rfl ?_
              refine w_bipush dX35_drop_101 (v := 19) (by decide) ?_
              obtain ⟨_, b14, hf⟩ := Option.bind_eq_some_iff.mp hf
              refine x_cnI hf (e_stV (Yc := YX35_means) (ci := 34) (av := [.int q3.1, .int (19 : Int32)]) (st := []) dX35_drop_103 q5197 mX35_means rfl (k_ok_some b14).1 (k_ok_some b14).2) mX35_means.2.2.1 mX35_means.2.2.2.2.1 (Nat.le_of_ble_eq_true rfl) (Nat.le_of_ble_eq_true rfl) (fun q hq => pX35_means (by omega) hq) (fun q15 hf => ?_)
              refine w_if_eq 129 dX35_drop_106 (by decide) (fun c16 => ?_) (fun c16 => ?_)
              · replace hf := (if_pos (show q15.1 = 0 from c16)).symm.trans hf
                exact (pX35_drop_b129 hd ih hf).to ⟨rfl, rfl, rfl, rfl, rfl, rfl, rfl, trivial⟩
              · replace hf := (if_neg (show ¬ (q15.1 = 0) from c16)).symm.trans hf
                refine w_aload_n dX35_drop_109 rfl rfl ?_
                obtain ⟨a17, b18, hf⟩ := Option.bind_eq_some_iff.mp hf
                refine GX35_118 b18 dX35_drop_110 rfl ?_
                refine w_iload_n dX35_drop_113 rfl rfl ?_
                refine w_iconst dX35_drop_114 (v := 2) (by decide) ?_
                obtain ⟨h19, b20, hf⟩ := Option.bind_eq_some_iff.mp hf
                refine x_qI b20 dX35_drop_115 ?_
                refine w_aload_n dX35_drop_116 rfl rfl ?_
                refine w_iload_n dX35_drop_117 rfl rfl ?_
                refine w_iconst dX35_drop_118 (v := 1) (by decide) ?_
                refine w_iadd dX35_drop_119 ?_
                obtain ⟨h21, b22, hf⟩ := Option.bind_eq_some_iff.mp hf
                refine SX35_350 b22 dX35_drop_120 rfl ?_
                refine w_iconst dX35_drop_123 (v := 0) (by decide) ?_
                refine w_istore dX35_drop_124 (by decide) (ls' := [some (.ref l0), some (.int l1), some (.int l2), some (.int l3), some (.int l4), some (.int (0 : Int32)), some (.int q3.1)]) rfl ?_
                refine w_goto 198 dX35_drop_126 (by decide) ?_
                exact (pX35_drop_b198 hd ih hf).to ⟨rfl, rfl, rfl, rfl, rfl, rfl, trivial⟩
          · replace hf := (if_neg (show ¬ (q11.1 = 0) from c12)).symm.trans hf
            refine w_iload_n dX35_drop_60 rfl rfl ?_
            refine w_if_le 68 dX35_drop_61 (by decide) (fun c23 => ?_) (fun c23 => ?_)
            · replace hf := (if_pos (show l3 ≤ 0 from c23)).symm.trans hf
              refine w_iconst dX35_drop_68 (v := 0) (by decide) ?_
              exact (pX35_drop_b69 hd ih hf).to ⟨rfl, rfl, rfl, rfl, rfl, trivial⟩
            · replace hf := (if_neg (show ¬ (l3 ≤ 0) from c23)).symm.trans hf
              refine w_iconst dX35_drop_64 (v := 1) (by decide) ?_
              refine w_goto 69 dX35_drop_65 (by decide) ?_
              exact (pX35_drop_b69 hd ih hf).to ⟨rfl, rfl, rfl, rfl, rfl, trivial⟩
        · replace hf := (if_neg (show ¬ (q8.1 = 0) from c9)).symm.trans hf
          refine w_iinc dX35_drop_43 (v := (l3 + (1 : Int32))) rfl rfl (by decide) (ls' := [some (.ref l0), some (.int l1), some (.int l2), some (.int (l3 + (1 : Int32))), some (.int l4), some (.int l5), some (.int q3.1)]) rfl ?_
          refine w_goto 198 dX35_drop_46 (by decide) ?_
          exact (pX35_drop_b198 hd ih hf).to ⟨rfl, rfl, rfl, rfl, rfl, rfl, trivial⟩
      · replace hf := (if_neg (show ¬ (x4 ≤ 0) from c6)).symm.trans hf
        cases hf
        exact w_vret dX35_drop_33 rfl rfl
def fX35_drop (N : Nat) (this : Nat) (p0 : Int32) (p1 : Int32) (h : eH) : Option (Unit × eH) :=
  (g_I 34 h this 41).bind fun x1 =>
  fX35_drop_b15 N N this p0 p1 ((x1 - (1 : Int32)) - p0) (0 : Int32) (1 : Int32) h
theorem pX35_drop {w : eW} {d : Nat} (hd : 6 ≤ d) {N : Nat} {this : Nat} {p0 : Int32} {p1 : Int32} {h : eH} {q} (hf : fX35_drop N this p0 p1 h = some q) : wm w d YX35_drop [.ref this, .int p0, .int p1] h (e_is (e_rn c_V q)) := by
  obtain ⟨d, rfl⟩ : ∃ e, d = e + 1 := ⟨d - 1, by omega⟩
  show wp w (d + 1) YX35_drop 0 [some (.ref this), some (.int p0), some (.int p1), none, none, none, none] [] h _
  unfold fX35_drop at hf
  refine w_aload_n dX35_drop_0 rfl rfl ?_
  obtain ⟨x1, b2, hf⟩ := Option.bind_eq_some_iff.mp hf
  refine GX35_350 b2 dX35_drop_1 rfl ?_
  refine w_iconst dX35_drop_4 (v := 1) (by decide) ?_
  refine w_isub dX35_drop_5 ?_
  refine w_iload_n dX35_drop_6 rfl rfl ?_
  refine w_isub dX35_drop_7 ?_
  refine w_istore_n dX35_drop_8 rfl (by decide) (ls' := [some (.ref this), some (.int p0), some (.int p1), some (.int ((x1 - (1 : Int32)) - p0)), none, none, none]) rfl ?_
  refine w_iconst dX35_drop_9 (v := 0) (by decide) ?_
  refine w_istore dX35_drop_10 (by decide) (ls' := [some (.ref this), some (.int p0), some (.int p1), some (.int ((x1 - (1 : Int32)) - p0)), some (.int (0 : Int32)), none, none]) rfl ?_
  refine w_iconst dX35_drop_12 (v := 1) (by decide) ?_
  refine w_istore dX35_drop_13 (by decide) (ls' := [some (.ref this), some (.int p0), some (.int p1), some (.int ((x1 - (1 : Int32)) - p0)), some (.int (0 : Int32)), some (.int (1 : Int32)), none]) rfl ?_
  exact (pX35_drop_b15 hd N _ _ _ _ _ _ _ _ hf).to ⟨rfl, rfl, rfl, rfl, rfl, rfl, trivial⟩
abbrev cX35_condition : ByteArray := prog_37_method_57_code
def yX35_condition : MethodName := ⟨RX35, "condition", "(I)V"⟩
def YX35_condition : eY := (yX35_condition, cX35_condition, 9, none, [])
theorem mX35_condition : e_mv YX35_condition RX35 1 := ⟨q5327, qs288, q5328, by decide, by decide +kernel, (e_sig (by decide +kernel))⟩
theorem dX35_condition_0 : decode cX35_condition 0 = .ok (.aload_n 0, 1) := dc_42 (by decide +kernel)
theorem dX35_condition_1 : decode cX35_condition 1 = .ok (.getfield 350, 3) := dc_180 (a := 1) (b := 94) (n := 350) (by decide +kernel)
theorem dX35_condition_4 : decode cX35_condition 4 = .ok (.bipush 100, 2) := dc_16 (a := 100) (v := 100) (by decide +kernel)
theorem dX35_condition_6 : decode cX35_condition 6 = .ok (.if_icmp .ne 9, 3) := dc_160 (a := 0) (b := 9) (v := 9) (by decide +kernel)
theorem dX35_condition_9 : decode cX35_condition 9 = .ok (.aload_n 0, 1) := dc_42 (by decide +kernel)
theorem dX35_condition_10 : decode cX35_condition 10 = .ok (.iconst 2, 1) := dc_5 (by decide +kernel)
theorem dX35_condition_11 : decode cX35_condition 11 = .ok (.invokevirtual 428, 3) := dc_182 (a := 1) (b := 172) (n := 428) (by decide +kernel)
theorem dX35_condition_14 : decode cX35_condition 14 = .ok (.return_, 1) := dc_177 (by decide +kernel)
theorem dX35_condition_15 : decode cX35_condition 15 = .ok (.aload_n 0, 1) := dc_42 (by decide +kernel)
theorem dX35_condition_16 : decode cX35_condition 16 = .ok (.getfield 350, 3) := dc_180 (a := 1) (b := 94) (n := 350) (by decide +kernel)
theorem dX35_condition_19 : decode cX35_condition 19 = .ok (.istore_n 2, 1) := dc_61 (by decide +kernel)
theorem dX35_condition_20 : decode cX35_condition 20 = .ok (.aload_n 0, 1) := dc_42 (by decide +kernel)
theorem dX35_condition_21 : decode cX35_condition 21 = .ok (.getfield 115, 3) := dc_180 (a := 0) (b := 115) (n := 115) (by decide +kernel)
theorem dX35_condition_24 : decode cX35_condition 24 = .ok (.iload_n 2, 1) := dc_28 (by decide +kernel)
theorem dX35_condition_25 : decode cX35_condition 25 = .ok (.iload_n 1, 1) := dc_27 (by decide +kernel)
theorem dX35_condition_26 : decode cX35_condition 26 = .ok (.bipush 18, 2) := dc_16 (a := 18) (v := 18) (by decide +kernel)
theorem dX35_condition_28 : decode cX35_condition 28 = .ok (.if_icmp .ne 7, 3) := dc_160 (a := 0) (b := 7) (v := 7) (by decide +kernel)
theorem dX35_condition_31 : decode cX35_condition 31 = .ok (.iconst 1, 1) := dc_4 (by decide +kernel)
theorem dX35_condition_32 : decode cX35_condition 32 = .ok (.goto 4, 3) := dc_167 (a := 0) (b := 4) (v := 4) (by decide +kernel)
theorem dX35_condition_35 : decode cX35_condition 35 = .ok (.iconst 0, 1) := dc_3 (by decide +kernel)
theorem dX35_condition_36 : decode cX35_condition 36 = .ok (.bastore, 1) := dc_84 (by decide +kernel)
theorem dX35_condition_37 : decode cX35_condition 37 = .ok (.aload_n 0, 1) := dc_42 (by decide +kernel)
theorem dX35_condition_38 : decode cX35_condition 38 = .ok (.getfield 118, 3) := dc_180 (a := 0) (b := 118) (n := 118) (by decide +kernel)
theorem dX35_condition_41 : decode cX35_condition 41 = .ok (.iload_n 2, 1) := dc_28 (by decide +kernel)
theorem dX35_condition_42 : decode cX35_condition 42 = .ok (.iconst 0, 1) := dc_3 (by decide +kernel)
theorem dX35_condition_43 : decode cX35_condition 43 = .ok (.iastore, 1) := dc_79 (by decide +kernel)
theorem dX35_condition_44 : decode cX35_condition 44 = .ok (.aload_n 0, 1) := dc_42 (by decide +kernel)
theorem dX35_condition_45 : decode cX35_condition 45 = .ok (.dup, 1) := dc_89 (by decide +kernel)
theorem dX35_condition_46 : decode cX35_condition 46 = .ok (.getfield 350, 3) := dc_180 (a := 1) (b := 94) (n := 350) (by decide +kernel)
theorem dX35_condition_49 : decode cX35_condition 49 = .ok (.iconst 1, 1) := dc_4 (by decide +kernel)
theorem dX35_condition_50 : decode cX35_condition 50 = .ok (.iadd, 1) := dc_96 (by decide +kernel)
theorem dX35_condition_51 : decode cX35_condition 51 = .ok (.putfield 350, 3) := dc_181 (a := 1) (b := 94) (n := 350) (by decide +kernel)
theorem dX35_condition_54 : decode cX35_condition 54 = .ok (.iconst 0, 1) := dc_3 (by decide +kernel)
theorem dX35_condition_55 : decode cX35_condition 55 = .ok (.istore_n 3, 1) := dc_62 (by decide +kernel)
theorem dX35_condition_56 : decode cX35_condition 56 = .ok (.iconst 0, 1) := dc_3 (by decide +kernel)
theorem dX35_condition_57 : decode cX35_condition 57 = .ok (.istore 4, 2) := dc_54 (a := 4) (by decide +kernel)
theorem dX35_condition_59 : decode cX35_condition 59 = .ok (.iload_n 1, 1) := dc_27 (by decide +kernel)
theorem dX35_condition_60 : decode cX35_condition 60 = .ok (.tableswitch 291 7 18 #[133, 133, 198, 245, 64, 253, 72, 89, 106, 291, 291, 271], 64) := by decide +kernel
theorem dX35_condition_124 : decode cX35_condition 124 = .ok (.aload_n 0, 1) := dc_42 (by decide +kernel)
theorem dX35_condition_125 : decode cX35_condition 125 = .ok (.invokevirtual 584, 3) := dc_182 (a := 2) (b := 72) (n := 584) (by decide +kernel)
theorem dX35_condition_128 : decode cX35_condition 128 = .ok (.istore_n 3, 1) := dc_62 (by decide +kernel)
theorem dX35_condition_129 : decode cX35_condition 129 = .ok (.goto 234, 3) := dc_167 (a := 0) (b := 234) (v := 234) (by decide +kernel)
theorem dX35_condition_132 : decode cX35_condition 132 = .ok (.aload_n 0, 1) := dc_42 (by decide +kernel)
theorem dX35_condition_133 : decode cX35_condition 133 = .ok (.invokevirtual 587, 3) := dc_182 (a := 2) (b := 75) (n := 587) (by decide +kernel)
theorem dX35_condition_136 : decode cX35_condition 136 = .ok (.iconst 2, 1) := dc_5 (by decide +kernel)
theorem dX35_condition_137 : decode cX35_condition 137 = .ok (.if_icmp .ge 7, 3) := dc_162 (a := 0) (b := 7) (v := 7) (by decide +kernel)
theorem dX35_condition_140 : decode cX35_condition 140 = .ok (.iconst 1, 1) := dc_4 (by decide +kernel)
theorem dX35_condition_141 : decode cX35_condition 141 = .ok (.goto 4, 3) := dc_167 (a := 0) (b := 4) (v := 4) (by decide +kernel)
theorem dX35_condition_144 : decode cX35_condition 144 = .ok (.iconst 0, 1) := dc_3 (by decide +kernel)
theorem dX35_condition_145 : decode cX35_condition 145 = .ok (.istore_n 3, 1) := dc_62 (by decide +kernel)
theorem dX35_condition_146 : decode cX35_condition 146 = .ok (.goto 217, 3) := dc_167 (a := 0) (b := 217) (v := 217) (by decide +kernel)
theorem dX35_condition_149 : decode cX35_condition 149 = .ok (.aload_n 0, 1) := dc_42 (by decide +kernel)
theorem dX35_condition_150 : decode cX35_condition 150 = .ok (.invokevirtual 587, 3) := dc_182 (a := 2) (b := 75) (n := 587) (by decide +kernel)
theorem dX35_condition_153 : decode cX35_condition 153 = .ok (.iconst 2, 1) := dc_5 (by decide +kernel)
theorem dX35_condition_154 : decode cX35_condition 154 = .ok (.if_icmp .lt 7, 3) := dc_161 (a := 0) (b := 7) (v := 7) (by decide +kernel)
theorem dX35_condition_157 : decode cX35_condition 157 = .ok (.iconst 1, 1) := dc_4 (by decide +kernel)
theorem dX35_condition_158 : decode cX35_condition 158 = .ok (.goto 4, 3) := dc_167 (a := 0) (b := 4) (v := 4) (by decide +kernel)
theorem dX35_condition_161 : decode cX35_condition 161 = .ok (.iconst 0, 1) := dc_3 (by decide +kernel)
theorem dX35_condition_162 : decode cX35_condition 162 = .ok (.istore_n 3, 1) := dc_62 (by decide +kernel)
theorem dX35_condition_163 : decode cX35_condition 163 = .ok (.goto 200, 3) := dc_167 (a := 0) (b := 200) (v := 200) (by decide +kernel)
theorem dX35_condition_166 : decode cX35_condition 166 = .ok (.aload_n 0, 1) := dc_42 (by decide +kernel)
theorem dX35_condition_167 : decode cX35_condition 167 = .ok (.sipush 3299, 3) := dc_17 (a := 12) (b := 227) (v := 3299) (by decide +kernel)
theorem dX35_condition_170 : decode cX35_condition 170 = .ok (.aload_n 0, 1) := dc_42 (by decide +kernel)
theorem dX35_condition_171 : decode cX35_condition 171 = .ok (.sipush 255, 3) := dc_17 (a := 0) (b := 255) (v := 255) (by decide +kernel)
theorem dX35_condition_174 : decode cX35_condition 174 = .ok (.invokevirtual 590, 3) := dc_182 (a := 2) (b := 78) (n := 590) (by decide +kernel)
theorem dX35_condition_177 : decode cX35_condition 177 = .ok (.iadd, 1) := dc_96 (by decide +kernel)
theorem dX35_condition_178 : decode cX35_condition 178 = .ok (.invokevirtual 431, 3) := dc_182 (a := 1) (b := 175) (n := 431) (by decide +kernel)
theorem dX35_condition_181 : decode cX35_condition 181 = .ok (.ifCond .ge 7, 3) := dc_156 (a := 0) (b := 7) (v := 7) (by decide +kernel)
theorem dX35_condition_184 : decode cX35_condition 184 = .ok (.iconst 1, 1) := dc_4 (by decide +kernel)
theorem dX35_condition_185 : decode cX35_condition 185 = .ok (.goto 4, 3) := dc_167 (a := 0) (b := 4) (v := 4) (by decide +kernel)
theorem dX35_condition_188 : decode cX35_condition 188 = .ok (.iconst 0, 1) := dc_3 (by decide +kernel)
theorem dX35_condition_189 : decode cX35_condition 189 = .ok (.istore_n 3, 1) := dc_62 (by decide +kernel)
theorem dX35_condition_190 : decode cX35_condition 190 = .ok (.goto 173, 3) := dc_167 (a := 0) (b := 173) (v := 173) (by decide +kernel)
theorem dX35_condition_193 : decode cX35_condition 193 = .ok (.aload_n 0, 1) := dc_42 (by decide +kernel)
theorem dX35_condition_194 : decode cX35_condition 194 = .ok (.invokevirtual 490, 3) := dc_182 (a := 1) (b := 234) (n := 490) (by decide +kernel)
theorem dX35_condition_197 : decode cX35_condition 197 = .ok (.istore 5, 2) := dc_54 (a := 5) (by decide +kernel)
theorem dX35_condition_199 : decode cX35_condition 199 = .ok (.aload_n 0, 1) := dc_42 (by decide +kernel)
theorem dX35_condition_200 : decode cX35_condition 200 = .ok (.invokevirtual 490, 3) := dc_182 (a := 1) (b := 234) (n := 490) (by decide +kernel)
theorem dX35_condition_203 : decode cX35_condition 203 = .ok (.istore 6, 2) := dc_54 (a := 6) (by decide +kernel)
theorem dX35_condition_205 : decode cX35_condition 205 = .ok (.aload_n 0, 1) := dc_42 (by decide +kernel)
theorem dX35_condition_206 : decode cX35_condition 206 = .ok (.getfield 321, 3) := dc_180 (a := 1) (b := 65) (n := 321) (by decide +kernel)
theorem dX35_condition_209 : decode cX35_condition 209 = .ok (.ifCond .ne 44, 3) := dc_154 (a := 0) (b := 44) (v := 44) (by decide +kernel)
theorem dX35_condition_212 : decode cX35_condition 212 = .ok (.aload_n 0, 1) := dc_42 (by decide +kernel)
theorem dX35_condition_213 : decode cX35_condition 213 = .ok (.iload 5, 2) := dc_21 (a := 5) (by decide +kernel)
theorem dX35_condition_215 : decode cX35_condition 215 = .ok (.iload_n 1, 1) := dc_27 (by decide +kernel)
theorem dX35_condition_216 : decode cX35_condition 216 = .ok (.bipush 8, 2) := dc_16 (a := 8) (v := 8) (by decide +kernel)
theorem dX35_condition_218 : decode cX35_condition 218 = .ok (.if_icmp .ne 7, 3) := dc_160 (a := 0) (b := 7) (v := 7) (by decide +kernel)
theorem dX35_condition_221 : decode cX35_condition 221 = .ok (.iconst 1, 1) := dc_4 (by decide +kernel)
theorem dX35_condition_222 : decode cX35_condition 222 = .ok (.goto 4, 3) := dc_167 (a := 0) (b := 4) (v := 4) (by decide +kernel)
theorem dX35_condition_225 : decode cX35_condition 225 = .ok (.iconst 0, 1) := dc_3 (by decide +kernel)
theorem dX35_condition_226 : decode cX35_condition 226 = .ok (.invokevirtual 593, 3) := dc_182 (a := 2) (b := 81) (n := 593) (by decide +kernel)
theorem dX35_condition_229 : decode cX35_condition 229 = .ok (.aload_n 0, 1) := dc_42 (by decide +kernel)
theorem dX35_condition_230 : decode cX35_condition 230 = .ok (.iload 6, 2) := dc_21 (a := 6) (by decide +kernel)
theorem dX35_condition_232 : decode cX35_condition 232 = .ok (.iload_n 1, 1) := dc_27 (by decide +kernel)
theorem dX35_condition_233 : decode cX35_condition 233 = .ok (.bipush 8, 2) := dc_16 (a := 8) (v := 8) (by decide +kernel)
theorem dX35_condition_235 : decode cX35_condition 235 = .ok (.if_icmp .ne 7, 3) := dc_160 (a := 0) (b := 7) (v := 7) (by decide +kernel)
theorem dX35_condition_238 : decode cX35_condition 238 = .ok (.iconst 1, 1) := dc_4 (by decide +kernel)
theorem dX35_condition_239 : decode cX35_condition 239 = .ok (.goto 4, 3) := dc_167 (a := 0) (b := 4) (v := 4) (by decide +kernel)
theorem dX35_condition_242 : decode cX35_condition 242 = .ok (.iconst 0, 1) := dc_3 (by decide +kernel)
theorem dX35_condition_243 : decode cX35_condition 243 = .ok (.invokevirtual 593, 3) := dc_182 (a := 2) (b := 81) (n := 593) (by decide +kernel)
theorem dX35_condition_246 : decode cX35_condition 246 = .ok (.if_icmp .ne 7, 3) := dc_160 (a := 0) (b := 7) (v := 7) (by decide +kernel)
theorem dX35_condition_249 : decode cX35_condition 249 = .ok (.iconst 1, 1) := dc_4 (by decide +kernel)
theorem dX35_condition_250 : decode cX35_condition 250 = .ok (.goto 4, 3) := dc_167 (a := 0) (b := 4) (v := 4) (by decide +kernel)
theorem dX35_condition_253 : decode cX35_condition 253 = .ok (.iconst 0, 1) := dc_3 (by decide +kernel)
theorem dX35_condition_254 : decode cX35_condition 254 = .ok (.istore_n 3, 1) := dc_62 (by decide +kernel)
theorem dX35_condition_255 : decode cX35_condition 255 = .ok (.goto 108, 3) := dc_167 (a := 0) (b := 108) (v := 108) (by decide +kernel)
theorem dX35_condition_258 : decode cX35_condition 258 = .ok (.aload_n 0, 1) := dc_42 (by decide +kernel)
theorem dX35_condition_259 : decode cX35_condition 259 = .ok (.invokevirtual 506, 3) := dc_182 (a := 1) (b := 250) (n := 506) (by decide +kernel)
theorem dX35_condition_262 : decode cX35_condition 262 = .ok (.istore 7, 2) := dc_54 (a := 7) (by decide +kernel)
theorem dX35_condition_264 : decode cX35_condition 264 = .ok (.aload_n 0, 1) := dc_42 (by decide +kernel)
theorem dX35_condition_265 : decode cX35_condition 265 = .ok (.invokevirtual 506, 3) := dc_182 (a := 1) (b := 250) (n := 506) (by decide +kernel)
theorem dX35_condition_268 : decode cX35_condition 268 = .ok (.istore 8, 2) := dc_54 (a := 8) (by decide +kernel)
theorem dX35_condition_270 : decode cX35_condition 270 = .ok (.aload_n 0, 1) := dc_42 (by decide +kernel)
theorem dX35_condition_271 : decode cX35_condition 271 = .ok (.getfield 321, 3) := dc_180 (a := 1) (b := 65) (n := 321) (by decide +kernel)
theorem dX35_condition_274 : decode cX35_condition 274 = .ok (.ifCond .ne 26, 3) := dc_154 (a := 0) (b := 26) (v := 26) (by decide +kernel)
theorem dX35_condition_277 : decode cX35_condition 277 = .ok (.aload_n 0, 1) := dc_42 (by decide +kernel)
theorem dX35_condition_278 : decode cX35_condition 278 = .ok (.aload_n 0, 1) := dc_42 (by decide +kernel)
theorem dX35_condition_279 : decode cX35_condition 279 = .ok (.iload 7, 2) := dc_21 (a := 7) (by decide +kernel)
theorem dX35_condition_281 : decode cX35_condition 281 = .ok (.invokevirtual 474, 3) := dc_182 (a := 1) (b := 218) (n := 474) (by decide +kernel)
theorem dX35_condition_284 : decode cX35_condition 284 = .ok (.aload_n 0, 1) := dc_42 (by decide +kernel)
theorem dX35_condition_285 : decode cX35_condition 285 = .ok (.iload 8, 2) := dc_21 (a := 8) (by decide +kernel)
theorem dX35_condition_287 : decode cX35_condition 287 = .ok (.invokevirtual 474, 3) := dc_182 (a := 1) (b := 218) (n := 474) (by decide +kernel)
theorem dX35_condition_290 : decode cX35_condition 290 = .ok (.invokevirtual 597, 3) := dc_182 (a := 2) (b := 85) (n := 597) (by decide +kernel)
theorem dX35_condition_293 : decode cX35_condition 293 = .ok (.ifCond .eq 7, 3) := dc_153 (a := 0) (b := 7) (v := 7) (by decide +kernel)
theorem dX35_condition_296 : decode cX35_condition 296 = .ok (.iconst 1, 1) := dc_4 (by decide +kernel)
theorem dX35_condition_297 : decode cX35_condition 297 = .ok (.goto 4, 3) := dc_167 (a := 0) (b := 4) (v := 4) (by decide +kernel)
theorem dX35_condition_300 : decode cX35_condition 300 = .ok (.iconst 0, 1) := dc_3 (by decide +kernel)
theorem dX35_condition_301 : decode cX35_condition 301 = .ok (.istore_n 3, 1) := dc_62 (by decide +kernel)
theorem dX35_condition_302 : decode cX35_condition 302 = .ok (.goto 61, 3) := dc_167 (a := 0) (b := 61) (v := 61) (by decide +kernel)
theorem dX35_condition_305 : decode cX35_condition 305 = .ok (.aload_n 0, 1) := dc_42 (by decide +kernel)
theorem dX35_condition_306 : decode cX35_condition 306 = .ok (.invokevirtual 600, 3) := dc_182 (a := 2) (b := 88) (n := 600) (by decide +kernel)
theorem dX35_condition_309 : decode cX35_condition 309 = .ok (.istore_n 3, 1) := dc_62 (by decide +kernel)
theorem dX35_condition_310 : decode cX35_condition 310 = .ok (.goto 53, 3) := dc_167 (a := 0) (b := 53) (v := 53) (by decide +kernel)
theorem dX35_condition_313 : decode cX35_condition 313 = .ok (.aload_n 0, 1) := dc_42 (by decide +kernel)
theorem dX35_condition_314 : decode cX35_condition 314 = .ok (.invokevirtual 518, 3) := dc_182 (a := 2) (b := 6) (n := 518) (by decide +kernel)
theorem dX35_condition_317 : decode cX35_condition 317 = .ok (.iconst 2, 1) := dc_5 (by decide +kernel)
theorem dX35_condition_318 : decode cX35_condition 318 = .ok (.irem, 1) := dc_112 (by decide +kernel)
theorem dX35_condition_319 : decode cX35_condition 319 = .ok (.ifCond .eq 7, 3) := dc_153 (a := 0) (b := 7) (v := 7) (by decide +kernel)
theorem dX35_condition_322 : decode cX35_condition 322 = .ok (.iconst 1, 1) := dc_4 (by decide +kernel)
theorem dX35_condition_323 : decode cX35_condition 323 = .ok (.goto 4, 3) := dc_167 (a := 0) (b := 4) (v := 4) (by decide +kernel)
theorem dX35_condition_326 : decode cX35_condition 326 = .ok (.iconst 0, 1) := dc_3 (by decide +kernel)
theorem dX35_condition_327 : decode cX35_condition 327 = .ok (.istore_n 3, 1) := dc_62 (by decide +kernel)
theorem dX35_condition_328 : decode cX35_condition 328 = .ok (.goto 35, 3) := dc_167 (a := 0) (b := 35) (v := 35) (by decide +kernel)
theorem dX35_condition_331 : decode cX35_condition 331 = .ok (.aload_n 0, 1) := dc_42 (by decide +kernel)
theorem dX35_condition_332 : decode cX35_condition 332 = .ok (.invokevirtual 518, 3) := dc_182 (a := 2) (b := 6) (n := 518) (by decide +kernel)
theorem dX35_condition_335 : decode cX35_condition 335 = .ok (.istore 4, 2) := dc_54 (a := 4) (by decide +kernel)
theorem dX35_condition_337 : decode cX35_condition 337 = .ok (.iload 4, 2) := dc_21 (a := 4) (by decide +kernel)
theorem dX35_condition_339 : decode cX35_condition 339 = .ok (.ifCond .ne 7, 3) := dc_154 (a := 0) (b := 7) (v := 7) (by decide +kernel)
theorem dX35_condition_342 : decode cX35_condition 342 = .ok (.iconst 1, 1) := dc_4 (by decide +kernel)
theorem dX35_condition_343 : decode cX35_condition 343 = .ok (.goto 4, 3) := dc_167 (a := 0) (b := 4) (v := 4) (by decide +kernel)
theorem dX35_condition_346 : decode cX35_condition 346 = .ok (.iconst 0, 1) := dc_3 (by decide +kernel)
theorem dX35_condition_347 : decode cX35_condition 347 = .ok (.istore_n 3, 1) := dc_62 (by decide +kernel)
theorem dX35_condition_348 : decode cX35_condition 348 = .ok (.goto 15, 3) := dc_167 (a := 0) (b := 15) (v := 15) (by decide +kernel)
theorem dX35_condition_351 : decode cX35_condition 351 = .ok (.iload_n 1, 1) := dc_27 (by decide +kernel)
theorem dX35_condition_352 : decode cX35_condition 352 = .ok (.bipush 16, 2) := dc_16 (a := 16) (v := 16) (by decide +kernel)
theorem dX35_condition_354 : decode cX35_condition 354 = .ok (.if_icmp .ne 7, 3) := dc_160 (a := 0) (b := 7) (v := 7) (by decide +kernel)
theorem dX35_condition_357 : decode cX35_condition 357 = .ok (.iconst 1, 1) := dc_4 (by decide +kernel)
theorem dX35_condition_358 : decode cX35_condition 358 = .ok (.goto 4, 3) := dc_167 (a := 0) (b := 4) (v := 4) (by decide +kernel)
theorem dX35_condition_361 : decode cX35_condition 361 = .ok (.iconst 0, 1) := dc_3 (by decide +kernel)
theorem dX35_condition_362 : decode cX35_condition 362 = .ok (.istore_n 3, 1) := dc_62 (by decide +kernel)
theorem dX35_condition_363 : decode cX35_condition 363 = .ok (.aload_n 0, 1) := dc_42 (by decide +kernel)
theorem dX35_condition_364 : decode cX35_condition 364 = .ok (.getfield 321, 3) := dc_180 (a := 1) (b := 65) (n := 321) (by decide +kernel)
theorem dX35_condition_367 : decode cX35_condition 367 = .ok (.ifCond .le 4, 3) := dc_158 (a := 0) (b := 4) (v := 4) (by decide +kernel)
theorem dX35_condition_370 : decode cX35_condition 370 = .ok (.return_, 1) := dc_177 (by decide +kernel)
theorem dX35_condition_371 : decode cX35_condition 371 = .ok (.aload_n 0, 1) := dc_42 (by decide +kernel)
theorem dX35_condition_372 : decode cX35_condition 372 = .ok (.getfield 118, 3) := dc_180 (a := 0) (b := 118) (n := 118) (by decide +kernel)
theorem dX35_condition_375 : decode cX35_condition 375 = .ok (.iload_n 2, 1) := dc_28 (by decide +kernel)
theorem dX35_condition_376 : decode cX35_condition 376 = .ok (.iconst 1, 1) := dc_4 (by decide +kernel)
theorem dX35_condition_377 : decode cX35_condition 377 = .ok (.iastore, 1) := dc_79 (by decide +kernel)
theorem dX35_condition_378 : decode cX35_condition 378 = .ok (.iload_n 3, 1) := dc_29 (by decide +kernel)
theorem dX35_condition_379 : decode cX35_condition 379 = .ok (.ifCond .ne 20, 3) := dc_154 (a := 0) (b := 20) (v := 20) (by decide +kernel)
theorem dX35_condition_382 : decode cX35_condition 382 = .ok (.aload_n 0, 1) := dc_42 (by decide +kernel)
theorem dX35_condition_383 : decode cX35_condition 383 = .ok (.iload_n 2, 1) := dc_28 (by decide +kernel)
theorem dX35_condition_384 : decode cX35_condition 384 = .ok (.iload_n 1, 1) := dc_27 (by decide +kernel)
theorem dX35_condition_385 : decode cX35_condition 385 = .ok (.bipush 18, 2) := dc_16 (a := 18) (v := 18) (by decide +kernel)
theorem dX35_condition_387 : decode cX35_condition 387 = .ok (.if_icmp .ne 8, 3) := dc_160 (a := 0) (b := 8) (v := 8) (by decide +kernel)
theorem dX35_condition_390 : decode cX35_condition 390 = .ok (.iload 4, 2) := dc_21 (a := 4) (by decide +kernel)
theorem dX35_condition_392 : decode cX35_condition 392 = .ok (.goto 4, 3) := dc_167 (a := 0) (b := 4) (v := 4) (by decide +kernel)
theorem dX35_condition_395 : decode cX35_condition 395 = .ok (.iconst (-1), 1) := dc_2 (by decide +kernel)
theorem dX35_condition_396 : decode cX35_condition 396 = .ok (.invokevirtual 603, 3) := dc_182 (a := 2) (b := 91) (n := 603) (by decide +kernel)
theorem dX35_condition_399 : decode cX35_condition 399 = .ok (.return_, 1) := dc_177 (by decide +kernel)
def fX35_condition_b399 (N : Nat) (sE : Nat → Int32 → eH → Option (Unit × eH)) (sN : Nat → eH → Option (Int32 × eH))  (h : eH) : Option (Unit × eH) :=
  some ((), h)
theorem pX35_condition_b399 {w : eW} {d : Nat} {dr : Nat} (hd : dr + 12 ≤ d + 1) (hdr : 12 ≤ dr) {N : Nat} {sE : Nat → Int32 → eH → Option (Unit × eH)} {sN : Nat → eH → Option (Int32 × eH)} (hsE : ∀ a t0 h q, sE a t0 h = some q → wm w dr YX35_expand [.ref a, .int t0] h (e_is (e_rn c_V q))) (hsN : ∀ a h q, sN a h = some q → wm w dr YX35_number [.ref a] h (e_is (e_rn c_I q)))  {h : eH} {q} (hf : fX35_condition_b399 N sE sN h = some q) : wp w (d + 1) YX35_condition 399 [none, none, none, none, none, none, none, none, none] [] h (e_is (e_rn c_V q)) := by
  unfold fX35_condition_b399 at hf
  cases hf
  exact w_vret dX35_condition_399 rfl rfl
def fX35_condition_b396 (N : Nat) (sE : Nat → Int32 → eH → Option (Unit × eH)) (sN : Nat → eH → Option (Int32 × eH)) (s0 : Nat) (s1 : Int32) (s2 : Int32) (h : eH) : Option (Unit × eH) :=
  (k_ok 34 h s0).bind fun _ =>
  (fX35_drop N s0 s1 s2 h).bind fun q2 =>
  fX35_condition_b399 N sE sN q2.2
theorem pX35_condition_b396 {w : eW} {d : Nat} {dr : Nat} (hd : dr + 12 ≤ d + 1) (hdr : 12 ≤ dr) {N : Nat} {sE : Nat → Int32 → eH → Option (Unit × eH)} {sN : Nat → eH → Option (Int32 × eH)} (hsE : ∀ a t0 h q, sE a t0 h = some q → wm w dr YX35_expand [.ref a, .int t0] h (e_is (e_rn c_V q))) (hsN : ∀ a h q, sN a h = some q → wm w dr YX35_number [.ref a] h (e_is (e_rn c_I q))) {s0 : Nat} {s1 : Int32} {s2 : Int32} {h : eH} {q} (hf : fX35_condition_b396 N sE sN s0 s1 s2 h = some q) : wp w (d + 1) YX35_condition 396 [none, none, none, none, none, none, none, none, none] [.int s2, .int s1, .ref s0] h (e_is (e_rn c_V q)) := by
  unfold fX35_condition_b396 at hf
  obtain ⟨_, b1, hf⟩ := Option.bind_eq_some_iff.mp hf
  refine x_cnV hf (e_stV (Yc := YX35_drop) (ci := 34) (av := [.int s1, .int s2]) (st := []) dX35_condition_396 q5433 mX35_drop rfl (k_ok_some b1).1 (k_ok_some b1).2) mX35_drop.2.2.1 mX35_drop.2.2.2.2.1 (Nat.le_of_ble_eq_true rfl) (Nat.le_of_ble_eq_true rfl) (fun q hq => pX35_drop (by omega) hq) (fun q2 hf => ?_)
  exact (pX35_condition_b399 hd hdr hsE hsN hf).to trivial
def fX35_condition_b363 (N : Nat) (sE : Nat → Int32 → eH → Option (Unit × eH)) (sN : Nat → eH → Option (Int32 × eH)) (l0 : Nat) (l1 : Int32) (l2 : Int32) (l3 : Int32) (l4 : Int32) (h : eH) : Option (Unit × eH) :=
  (g_I 34 h l0 46).bind fun x1 =>
  if x1 ≤ 0 then
    (g_A 34 h l0 43).bind fun a4 =>
    (q_V 100 h a4 l2 (.int (1 : Int32))).bind fun h6 =>
    if ¬ l3 = 0 then
      fX35_condition_b399 N sE sN h6
    else
      if ¬ l1 = (18 : Int32) then
        fX35_condition_b396 N sE sN l0 l2 (-1 : Int32) h6
      else
        fX35_condition_b396 N sE sN l0 l2 l4 h6
  else
    some ((), h)
theorem pX35_condition_b363 {w : eW} {d : Nat} {dr : Nat} (hd : dr + 12 ≤ d + 1) (hdr : 12 ≤ dr) {N : Nat} {sE : Nat → Int32 → eH → Option (Unit × eH)} {sN : Nat → eH → Option (Int32 × eH)} (hsE : ∀ a t0 h q, sE a t0 h = some q → wm w dr YX35_expand [.ref a, .int t0] h (e_is (e_rn c_V q))) (hsN : ∀ a h q, sN a h = some q → wm w dr YX35_number [.ref a] h (e_is (e_rn c_I q))) {l0 : Nat} {l1 : Int32} {l2 : Int32} {l3 : Int32} {l4 : Int32} {h : eH} {q} (hf : fX35_condition_b363 N sE sN l0 l1 l2 l3 l4 h = some q) : wp w (d + 1) YX35_condition 363 [some (.ref l0), some (.int l1), some (.int l2), some (.int l3), some (.int l4), none, none, none, none] [] h (e_is (e_rn c_V q)) := by
  unfold fX35_condition_b363 at hf
  refine w_aload_n dX35_condition_363 rfl rfl ?_
  obtain ⟨x1, b2, hf⟩ := Option.bind_eq_some_iff.mp hf
  refine GX35_321 b2 dX35_condition_364 rfl ?_
  refine w_if_le 371 dX35_condition_367 (by decide) (fun c3 => ?_) (fun c3 => ?_)
  · replace hf := (if_pos (show x1 ≤ 0 from c3)).symm.trans hf
    refine w_aload_n dX35_condition_371 rfl rfl ?_
    obtain ⟨a4, b5, hf⟩ := Option.bind_eq_some_iff.mp hf
    refine GX35_118 b5 dX35_condition_372 rfl ?_
    refine w_iload_n dX35_condition_375 rfl rfl ?_
    refine w_iconst dX35_condition_376 (v := 1) (by decide) ?_
    obtain ⟨h6, b7, hf⟩ := Option.bind_eq_some_iff.mp hf
    refine x_qI b7 dX35_condition_377 ?_
    refine w_iload_n dX35_condition_378 rfl rfl ?_
    refine w_if_ne 399 dX35_condition_379 (by decide) (fun c8 => ?_) (fun c8 => ?_)
    · replace hf := (if_pos (show ¬ l3 = 0 from c8)).symm.trans hf
      exact (pX35_condition_b399 hd hdr hsE hsN hf).to trivial
    · replace hf := (if_neg (show ¬ (¬ l3 = 0) from (fun z => z c8))).symm.trans hf
      refine w_aload_n dX35_condition_382 rfl rfl ?_
      refine w_iload_n dX35_condition_383 rfl rfl ?_
      refine w_iload_n dX35_condition_384 rfl rfl ?_
      refine w_bipush dX35_condition_385 (v := 18) (by decide) ?_
      refine w_icmp_ne 395 dX35_condition_387 (by decide) (fun c9 => ?_) (fun c9 => ?_)
      · replace hf := (if_pos (show ¬ l1 = (18 : Int32) from c9)).symm.trans hf
        refine w_iconst dX35_condition_395 (v := -1) (by decide) ?_
        exact (pX35_condition_b396 hd hdr hsE hsN hf).to trivial
      · replace hf := (if_neg (show ¬ (¬ l1 = (18 : Int32)) from (fun z => z c9))).symm.trans hf
        refine w_iload dX35_condition_390 rfl ?_
        refine w_goto 396 dX35_condition_392 (by decide) ?_
        exact (pX35_condition_b396 hd hdr hsE hsN hf).to trivial
  · replace hf := (if_neg (show ¬ (x1 ≤ 0) from c3)).symm.trans hf
    cases hf
    exact w_vret dX35_condition_370 rfl rfl
def fX35_condition_b145 (N : Nat) (sE : Nat → Int32 → eH → Option (Unit × eH)) (sN : Nat → eH → Option (Int32 × eH)) (l0 : Nat) (l1 : Int32) (l2 : Int32) (l4 : Int32) (s0 : Int32) (h : eH) : Option (Unit × eH) :=
  fX35_condition_b363 N sE sN l0 l1 l2 s0 l4 h
theorem pX35_condition_b145 {w : eW} {d : Nat} {dr : Nat} (hd : dr + 12 ≤ d + 1) (hdr : 12 ≤ dr) {N : Nat} {sE : Nat → Int32 → eH → Option (Unit × eH)} {sN : Nat → eH → Option (Int32 × eH)} (hsE : ∀ a t0 h q, sE a t0 h = some q → wm w dr YX35_expand [.ref a, .int t0] h (e_is (e_rn c_V q))) (hsN : ∀ a h q, sN a h = some q → wm w dr YX35_number [.ref a] h (e_is (e_rn c_I q))) {l0 : Nat} {l1 : Int32} {l2 : Int32} {l4 : Int32} {s0 : Int32} {h : eH} {q} (hf : fX35_condition_b145 N sE sN l0 l1 l2 l4 s0 h = some q) : wp w (d + 1) YX35_condition 145 [some (.ref l0), some (.int l1), some (.int l2), none, some (.int l4), none, none, none, none] [.int s0] h (e_is (e_rn c_V q)) := by
  unfold fX35_condition_b145 at hf
  refine w_istore_n dX35_condition_145 rfl (by decide) (ls' := [some (.ref l0), some (.int l1), some (.int l2), some (.int s0), some (.int l4), none, none, none, none]) rfl ?_
  refine w_goto 363 dX35_condition_146 (by decide) ?_
  exact (pX35_condition_b363 hd hdr hsE hsN hf).to ⟨rfl, rfl, rfl, rfl, rfl, trivial⟩
def fX35_condition_b162 (N : Nat) (sE : Nat → Int32 → eH → Option (Unit × eH)) (sN : Nat → eH → Option (Int32 × eH)) (l0 : Nat) (l1 : Int32) (l2 : Int32) (l4 : Int32) (s0 : Int32) (h : eH) : Option (Unit × eH) :=
  fX35_condition_b363 N sE sN l0 l1 l2 s0 l4 h
theorem pX35_condition_b162 {w : eW} {d : Nat} {dr : Nat} (hd : dr + 12 ≤ d + 1) (hdr : 12 ≤ dr) {N : Nat} {sE : Nat → Int32 → eH → Option (Unit × eH)} {sN : Nat → eH → Option (Int32 × eH)} (hsE : ∀ a t0 h q, sE a t0 h = some q → wm w dr YX35_expand [.ref a, .int t0] h (e_is (e_rn c_V q))) (hsN : ∀ a h q, sN a h = some q → wm w dr YX35_number [.ref a] h (e_is (e_rn c_I q))) {l0 : Nat} {l1 : Int32} {l2 : Int32} {l4 : Int32} {s0 : Int32} {h : eH} {q} (hf : fX35_condition_b162 N sE sN l0 l1 l2 l4 s0 h = some q) : wp w (d + 1) YX35_condition 162 [some (.ref l0), some (.int l1), some (.int l2), none, some (.int l4), none, none, none, none] [.int s0] h (e_is (e_rn c_V q)) := by
  unfold fX35_condition_b162 at hf
  refine w_istore_n dX35_condition_162 rfl (by decide) (ls' := [some (.ref l0), some (.int l1), some (.int l2), some (.int s0), some (.int l4), none, none, none, none]) rfl ?_
  refine w_goto 363 dX35_condition_163 (by decide) ?_
  exact (pX35_condition_b363 hd hdr hsE hsN hf).to ⟨rfl, rfl, rfl, rfl, rfl, trivial⟩
def fX35_condition_b189 (N : Nat) (sE : Nat → Int32 → eH → Option (Unit × eH)) (sN : Nat → eH → Option (Int32 × eH)) (l0 : Nat) (l1 : Int32) (l2 : Int32) (l4 : Int32) (s0 : Int32) (h : eH) : Option (Unit × eH) :=
  fX35_condition_b363 N sE sN l0 l1 l2 s0 l4 h
theorem pX35_condition_b189 {w : eW} {d : Nat} {dr : Nat} (hd : dr + 12 ≤ d + 1) (hdr : 12 ≤ dr) {N : Nat} {sE : Nat → Int32 → eH → Option (Unit × eH)} {sN : Nat → eH → Option (Int32 × eH)} (hsE : ∀ a t0 h q, sE a t0 h = some q → wm w dr YX35_expand [.ref a, .int t0] h (e_is (e_rn c_V q))) (hsN : ∀ a h q, sN a h = some q → wm w dr YX35_number [.ref a] h (e_is (e_rn c_I q))) {l0 : Nat} {l1 : Int32} {l2 : Int32} {l4 : Int32} {s0 : Int32} {h : eH} {q} (hf : fX35_condition_b189 N sE sN l0 l1 l2 l4 s0 h = some q) : wp w (d + 1) YX35_condition 189 [some (.ref l0), some (.int l1), some (.int l2), none, some (.int l4), none, none, none, none] [.int s0] h (e_is (e_rn c_V q)) := by
  unfold fX35_condition_b189 at hf
  refine w_istore_n dX35_condition_189 rfl (by decide) (ls' := [some (.ref l0), some (.int l1), some (.int l2), some (.int s0), some (.int l4), none, none, none, none]) rfl ?_
  refine w_goto 363 dX35_condition_190 (by decide) ?_
  exact (pX35_condition_b363 hd hdr hsE hsN hf).to ⟨rfl, rfl, rfl, rfl, rfl, trivial⟩
def fX35_condition_b254 (N : Nat) (sE : Nat → Int32 → eH → Option (Unit × eH)) (sN : Nat → eH → Option (Int32 × eH)) (l0 : Nat) (l1 : Int32) (l2 : Int32) (l4 : Int32) (s0 : Int32) (h : eH) : Option (Unit × eH) :=
  fX35_condition_b363 N sE sN l0 l1 l2 s0 l4 h
theorem pX35_condition_b254 {w : eW} {d : Nat} {dr : Nat} (hd : dr + 12 ≤ d + 1) (hdr : 12 ≤ dr) {N : Nat} {sE : Nat → Int32 → eH → Option (Unit × eH)} {sN : Nat → eH → Option (Int32 × eH)} (hsE : ∀ a t0 h q, sE a t0 h = some q → wm w dr YX35_expand [.ref a, .int t0] h (e_is (e_rn c_V q))) (hsN : ∀ a h q, sN a h = some q → wm w dr YX35_number [.ref a] h (e_is (e_rn c_I q))) {l0 : Nat} {l1 : Int32} {l2 : Int32} {l4 : Int32} {s0 : Int32} {h : eH} {q} (hf : fX35_condition_b254 N sE sN l0 l1 l2 l4 s0 h = some q) : wp w (d + 1) YX35_condition 254 [some (.ref l0), some (.int l1), some (.int l2), none, some (.int l4), none, none, none, none] [.int s0] h (e_is (e_rn c_V q)) := by
  unfold fX35_condition_b254 at hf
  refine w_istore_n dX35_condition_254 rfl (by decide) (ls' := [some (.ref l0), some (.int l1), some (.int l2), some (.int s0), some (.int l4), none, none, none, none]) rfl ?_
  refine w_goto 363 dX35_condition_255 (by decide) ?_
  exact (pX35_condition_b363 hd hdr hsE hsN hf).to ⟨rfl, rfl, rfl, rfl, rfl, trivial⟩
def fX35_condition_b253 (N : Nat) (sE : Nat → Int32 → eH → Option (Unit × eH)) (sN : Nat → eH → Option (Int32 × eH)) (l0 : Nat) (l1 : Int32) (l2 : Int32) (l4 : Int32) (h : eH) : Option (Unit × eH) :=
  fX35_condition_b254 N sE sN l0 l1 l2 l4 (0 : Int32) h
theorem pX35_condition_b253 {w : eW} {d : Nat} {dr : Nat} (hd : dr + 12 ≤ d + 1) (hdr : 12 ≤ dr) {N : Nat} {sE : Nat → Int32 → eH → Option (Unit × eH)} {sN : Nat → eH → Option (Int32 × eH)} (hsE : ∀ a t0 h q, sE a t0 h = some q → wm w dr YX35_expand [.ref a, .int t0] h (e_is (e_rn c_V q))) (hsN : ∀ a h q, sN a h = some q → wm w dr YX35_number [.ref a] h (e_is (e_rn c_I q))) {l0 : Nat} {l1 : Int32} {l2 : Int32} {l4 : Int32} {h : eH} {q} (hf : fX35_condition_b253 N sE sN l0 l1 l2 l4 h = some q) : wp w (d + 1) YX35_condition 253 [some (.ref l0), some (.int l1), some (.int l2), none, some (.int l4), none, none, none, none] [] h (e_is (e_rn c_V q)) := by
  unfold fX35_condition_b253 at hf
  refine w_iconst dX35_condition_253 (v := 0) (by decide) ?_
  exact (pX35_condition_b254 hd hdr hsE hsN hf).to ⟨rfl, rfl, rfl, rfl, trivial⟩
def fX35_condition_b243 (N : Nat) (sE : Nat → Int32 → eH → Option (Unit × eH)) (sN : Nat → eH → Option (Int32 × eH)) (l0 : Nat) (l1 : Int32) (l2 : Int32) (l4 : Int32) (s0 : Int32) (s1 : Nat) (s2 : Int32) (s3 : Int32) (h : eH) : Option (Unit × eH) :=
  (k_ok 34 h s1).bind fun _ =>
  (fX35_shape s1 s2 s3 h).bind fun q2 =>
  if ¬ s0 = q2.1 then
    fX35_condition_b253 N sE sN l0 l1 l2 l4 q2.2
  else
    fX35_condition_b254 N sE sN l0 l1 l2 l4 (1 : Int32) q2.2
theorem pX35_condition_b243 {w : eW} {d : Nat} {dr : Nat} (hd : dr + 12 ≤ d + 1) (hdr : 12 ≤ dr) {N : Nat} {sE : Nat → Int32 → eH → Option (Unit × eH)} {sN : Nat → eH → Option (Int32 × eH)} (hsE : ∀ a t0 h q, sE a t0 h = some q → wm w dr YX35_expand [.ref a, .int t0] h (e_is (e_rn c_V q))) (hsN : ∀ a h q, sN a h = some q → wm w dr YX35_number [.ref a] h (e_is (e_rn c_I q))) {l0 : Nat} {l1 : Int32} {l2 : Int32} {l4 : Int32} {s0 : Int32} {s1 : Nat} {s2 : Int32} {s3 : Int32} {h : eH} {q} (hf : fX35_condition_b243 N sE sN l0 l1 l2 l4 s0 s1 s2 s3 h = some q) : wp w (d + 1) YX35_condition 243 [some (.ref l0), some (.int l1), some (.int l2), none, some (.int l4), none, none, none, none] [.int s3, .int s2, .ref s1, .int s0] h (e_is (e_rn c_V q)) := by
  unfold fX35_condition_b243 at hf
  obtain ⟨_, b1, hf⟩ := Option.bind_eq_some_iff.mp hf
  refine x_cnI hf (e_stV (Yc := YX35_shape) (ci := 34) (av := [.int s2, .int s3]) (st := [.int s0]) dX35_condition_243 q5421 mX35_shape rfl (k_ok_some b1).1 (k_ok_some b1).2) mX35_shape.2.2.1 mX35_shape.2.2.2.2.1 (Nat.le_of_ble_eq_true rfl) (Nat.le_of_ble_eq_true rfl) (fun q hq => pX35_shape (by omega) hq) (fun q2 hf => ?_)
  refine w_icmp_ne 253 dX35_condition_246 (by decide) (fun c3 => ?_) (fun c3 => ?_)
  · replace hf := (if_pos (show ¬ s0 = q2.1 from c3)).symm.trans hf
    exact (pX35_condition_b253 hd hdr hsE hsN hf).to ⟨rfl, rfl, rfl, rfl, trivial⟩
  · replace hf := (if_neg (show ¬ (¬ s0 = q2.1) from (fun z => z c3))).symm.trans hf
    refine w_iconst dX35_condition_249 (v := 1) (by decide) ?_
    refine w_goto 254 dX35_condition_250 (by decide) ?_
    exact (pX35_condition_b254 hd hdr hsE hsN hf).to ⟨rfl, rfl, rfl, rfl, trivial⟩
def fX35_condition_b226 (N : Nat) (sE : Nat → Int32 → eH → Option (Unit × eH)) (sN : Nat → eH → Option (Int32 × eH)) (l0 : Nat) (l1 : Int32) (l2 : Int32) (l4 : Int32) (l6 : Int32) (s0 : Nat) (s1 : Int32) (s2 : Int32) (h : eH) : Option (Unit × eH) :=
  (k_ok 34 h s0).bind fun _ =>
  (fX35_shape s0 s1 s2 h).bind fun q2 =>
  if ¬ l1 = (8 : Int32) then
    fX35_condition_b243 N sE sN l0 l1 l2 l4 q2.1 l0 l6 (0 : Int32) q2.2
  else
    fX35_condition_b243 N sE sN l0 l1 l2 l4 q2.1 l0 l6 (1 : Int32) q2.2
theorem pX35_condition_b226 {w : eW} {d : Nat} {dr : Nat} (hd : dr + 12 ≤ d + 1) (hdr : 12 ≤ dr) {N : Nat} {sE : Nat → Int32 → eH → Option (Unit × eH)} {sN : Nat → eH → Option (Int32 × eH)} (hsE : ∀ a t0 h q, sE a t0 h = some q → wm w dr YX35_expand [.ref a, .int t0] h (e_is (e_rn c_V q))) (hsN : ∀ a h q, sN a h = some q → wm w dr YX35_number [.ref a] h (e_is (e_rn c_I q))) {l0 : Nat} {l1 : Int32} {l2 : Int32} {l4 : Int32} {l6 : Int32} {s0 : Nat} {s1 : Int32} {s2 : Int32} {h : eH} {q} (hf : fX35_condition_b226 N sE sN l0 l1 l2 l4 l6 s0 s1 s2 h = some q) : wp w (d + 1) YX35_condition 226 [some (.ref l0), some (.int l1), some (.int l2), none, some (.int l4), none, some (.int l6), none, none] [.int s2, .int s1, .ref s0] h (e_is (e_rn c_V q)) := by
  unfold fX35_condition_b226 at hf
  obtain ⟨_, b1, hf⟩ := Option.bind_eq_some_iff.mp hf
  refine x_cnI hf (e_stV (Yc := YX35_shape) (ci := 34) (av := [.int s1, .int s2]) (st := []) dX35_condition_226 q5421 mX35_shape rfl (k_ok_some b1).1 (k_ok_some b1).2) mX35_shape.2.2.1 mX35_shape.2.2.2.2.1 (Nat.le_of_ble_eq_true rfl) (Nat.le_of_ble_eq_true rfl) (fun q hq => pX35_shape (by omega) hq) (fun q2 hf => ?_)
  refine w_aload_n dX35_condition_229 rfl rfl ?_
  refine w_iload dX35_condition_230 rfl ?_
  refine w_iload_n dX35_condition_232 rfl rfl ?_
  refine w_bipush dX35_condition_233 (v := 8) (by decide) ?_
  refine w_icmp_ne 242 dX35_condition_235 (by decide) (fun c3 => ?_) (fun c3 => ?_)
  · replace hf := (if_pos (show ¬ l1 = (8 : Int32) from c3)).symm.trans hf
    refine w_iconst dX35_condition_242 (v := 0) (by decide) ?_
    exact (pX35_condition_b243 hd hdr hsE hsN hf).to ⟨rfl, rfl, rfl, rfl, trivial⟩
  · replace hf := (if_neg (show ¬ (¬ l1 = (8 : Int32)) from (fun z => z c3))).symm.trans hf
    refine w_iconst dX35_condition_238 (v := 1) (by decide) ?_
    refine w_goto 243 dX35_condition_239 (by decide) ?_
    exact (pX35_condition_b243 hd hdr hsE hsN hf).to ⟨rfl, rfl, rfl, rfl, trivial⟩
def fX35_condition_b301 (N : Nat) (sE : Nat → Int32 → eH → Option (Unit × eH)) (sN : Nat → eH → Option (Int32 × eH)) (l0 : Nat) (l1 : Int32) (l2 : Int32) (l4 : Int32) (s0 : Int32) (h : eH) : Option (Unit × eH) :=
  fX35_condition_b363 N sE sN l0 l1 l2 s0 l4 h
theorem pX35_condition_b301 {w : eW} {d : Nat} {dr : Nat} (hd : dr + 12 ≤ d + 1) (hdr : 12 ≤ dr) {N : Nat} {sE : Nat → Int32 → eH → Option (Unit × eH)} {sN : Nat → eH → Option (Int32 × eH)} (hsE : ∀ a t0 h q, sE a t0 h = some q → wm w dr YX35_expand [.ref a, .int t0] h (e_is (e_rn c_V q))) (hsN : ∀ a h q, sN a h = some q → wm w dr YX35_number [.ref a] h (e_is (e_rn c_I q))) {l0 : Nat} {l1 : Int32} {l2 : Int32} {l4 : Int32} {s0 : Int32} {h : eH} {q} (hf : fX35_condition_b301 N sE sN l0 l1 l2 l4 s0 h = some q) : wp w (d + 1) YX35_condition 301 [some (.ref l0), some (.int l1), some (.int l2), none, some (.int l4), none, none, none, none] [.int s0] h (e_is (e_rn c_V q)) := by
  unfold fX35_condition_b301 at hf
  refine w_istore_n dX35_condition_301 rfl (by decide) (ls' := [some (.ref l0), some (.int l1), some (.int l2), some (.int s0), some (.int l4), none, none, none, none]) rfl ?_
  refine w_goto 363 dX35_condition_302 (by decide) ?_
  exact (pX35_condition_b363 hd hdr hsE hsN hf).to ⟨rfl, rfl, rfl, rfl, rfl, trivial⟩
def fX35_condition_b300 (N : Nat) (sE : Nat → Int32 → eH → Option (Unit × eH)) (sN : Nat → eH → Option (Int32 × eH)) (l0 : Nat) (l1 : Int32) (l2 : Int32) (l4 : Int32) (h : eH) : Option (Unit × eH) :=
  fX35_condition_b301 N sE sN l0 l1 l2 l4 (0 : Int32) h
theorem pX35_condition_b300 {w : eW} {d : Nat} {dr : Nat} (hd : dr + 12 ≤ d + 1) (hdr : 12 ≤ dr) {N : Nat} {sE : Nat → Int32 → eH → Option (Unit × eH)} {sN : Nat → eH → Option (Int32 × eH)} (hsE : ∀ a t0 h q, sE a t0 h = some q → wm w dr YX35_expand [.ref a, .int t0] h (e_is (e_rn c_V q))) (hsN : ∀ a h q, sN a h = some q → wm w dr YX35_number [.ref a] h (e_is (e_rn c_I q))) {l0 : Nat} {l1 : Int32} {l2 : Int32} {l4 : Int32} {h : eH} {q} (hf : fX35_condition_b300 N sE sN l0 l1 l2 l4 h = some q) : wp w (d + 1) YX35_condition 300 [some (.ref l0), some (.int l1), some (.int l2), none, some (.int l4), none, none, none, none] [] h (e_is (e_rn c_V q)) := by
  unfold fX35_condition_b300 at hf
  refine w_iconst dX35_condition_300 (v := 0) (by decide) ?_
  exact (pX35_condition_b301 hd hdr hsE hsN hf).to ⟨rfl, rfl, rfl, rfl, trivial⟩
def fX35_condition_b327 (N : Nat) (sE : Nat → Int32 → eH → Option (Unit × eH)) (sN : Nat → eH → Option (Int32 × eH)) (l0 : Nat) (l1 : Int32) (l2 : Int32) (l4 : Int32) (s0 : Int32) (h : eH) : Option (Unit × eH) :=
  fX35_condition_b363 N sE sN l0 l1 l2 s0 l4 h
theorem pX35_condition_b327 {w : eW} {d : Nat} {dr : Nat} (hd : dr + 12 ≤ d + 1) (hdr : 12 ≤ dr) {N : Nat} {sE : Nat → Int32 → eH → Option (Unit × eH)} {sN : Nat → eH → Option (Int32 × eH)} (hsE : ∀ a t0 h q, sE a t0 h = some q → wm w dr YX35_expand [.ref a, .int t0] h (e_is (e_rn c_V q))) (hsN : ∀ a h q, sN a h = some q → wm w dr YX35_number [.ref a] h (e_is (e_rn c_I q))) {l0 : Nat} {l1 : Int32} {l2 : Int32} {l4 : Int32} {s0 : Int32} {h : eH} {q} (hf : fX35_condition_b327 N sE sN l0 l1 l2 l4 s0 h = some q) : wp w (d + 1) YX35_condition 327 [some (.ref l0), some (.int l1), some (.int l2), none, some (.int l4), none, none, none, none] [.int s0] h (e_is (e_rn c_V q)) := by
  unfold fX35_condition_b327 at hf
  refine w_istore_n dX35_condition_327 rfl (by decide) (ls' := [some (.ref l0), some (.int l1), some (.int l2), some (.int s0), some (.int l4), none, none, none, none]) rfl ?_
  refine w_goto 363 dX35_condition_328 (by decide) ?_
  exact (pX35_condition_b363 hd hdr hsE hsN hf).to ⟨rfl, rfl, rfl, rfl, rfl, trivial⟩
def fX35_condition_b347 (N : Nat) (sE : Nat → Int32 → eH → Option (Unit × eH)) (sN : Nat → eH → Option (Int32 × eH)) (l0 : Nat) (l1 : Int32) (l2 : Int32) (l4 : Int32) (s0 : Int32) (h : eH) : Option (Unit × eH) :=
  fX35_condition_b363 N sE sN l0 l1 l2 s0 l4 h
theorem pX35_condition_b347 {w : eW} {d : Nat} {dr : Nat} (hd : dr + 12 ≤ d + 1) (hdr : 12 ≤ dr) {N : Nat} {sE : Nat → Int32 → eH → Option (Unit × eH)} {sN : Nat → eH → Option (Int32 × eH)} (hsE : ∀ a t0 h q, sE a t0 h = some q → wm w dr YX35_expand [.ref a, .int t0] h (e_is (e_rn c_V q))) (hsN : ∀ a h q, sN a h = some q → wm w dr YX35_number [.ref a] h (e_is (e_rn c_I q))) {l0 : Nat} {l1 : Int32} {l2 : Int32} {l4 : Int32} {s0 : Int32} {h : eH} {q} (hf : fX35_condition_b347 N sE sN l0 l1 l2 l4 s0 h = some q) : wp w (d + 1) YX35_condition 347 [some (.ref l0), some (.int l1), some (.int l2), none, some (.int l4), none, none, none, none] [.int s0] h (e_is (e_rn c_V q)) := by
  unfold fX35_condition_b347 at hf
  refine w_istore_n dX35_condition_347 rfl (by decide) (ls' := [some (.ref l0), some (.int l1), some (.int l2), some (.int s0), some (.int l4), none, none, none, none]) rfl ?_
  refine w_goto 363 dX35_condition_348 (by decide) ?_
  exact (pX35_condition_b363 hd hdr hsE hsN hf).to ⟨rfl, rfl, rfl, rfl, rfl, trivial⟩
def fX35_condition_b362 (N : Nat) (sE : Nat → Int32 → eH → Option (Unit × eH)) (sN : Nat → eH → Option (Int32 × eH)) (l0 : Nat) (l1 : Int32) (l2 : Int32) (l4 : Int32) (s0 : Int32) (h : eH) : Option (Unit × eH) :=
  fX35_condition_b363 N sE sN l0 l1 l2 s0 l4 h
theorem pX35_condition_b362 {w : eW} {d : Nat} {dr : Nat} (hd : dr + 12 ≤ d + 1) (hdr : 12 ≤ dr) {N : Nat} {sE : Nat → Int32 → eH → Option (Unit × eH)} {sN : Nat → eH → Option (Int32 × eH)} (hsE : ∀ a t0 h q, sE a t0 h = some q → wm w dr YX35_expand [.ref a, .int t0] h (e_is (e_rn c_V q))) (hsN : ∀ a h q, sN a h = some q → wm w dr YX35_number [.ref a] h (e_is (e_rn c_I q))) {l0 : Nat} {l1 : Int32} {l2 : Int32} {l4 : Int32} {s0 : Int32} {h : eH} {q} (hf : fX35_condition_b362 N sE sN l0 l1 l2 l4 s0 h = some q) : wp w (d + 1) YX35_condition 362 [some (.ref l0), some (.int l1), some (.int l2), none, some (.int l4), none, none, none, none] [.int s0] h (e_is (e_rn c_V q)) := by
  unfold fX35_condition_b362 at hf
  refine w_istore_n dX35_condition_362 rfl (by decide) (ls' := [some (.ref l0), some (.int l1), some (.int l2), some (.int s0), some (.int l4), none, none, none, none]) rfl ?_
  exact (pX35_condition_b363 hd hdr hsE hsN hf).to ⟨rfl, rfl, rfl, rfl, rfl, trivial⟩
def fX35_condition_b36 (N : Nat) (sE : Nat → Int32 → eH → Option (Unit × eH)) (sN : Nat → eH → Option (Int32 × eH)) (l0 : Nat) (l1 : Int32) (l2 : Int32) (s0 : Nat) (s1 : Int32) (s2 : Int32) (h : eH) : Option (Unit × eH) :=
  (q_V 103 h s0 s1 (.int (s2 &&& 1))).bind fun h1 =>
  (g_A 34 h1 l0 43).bind fun a3 =>
  (q_V 100 h1 a3 l2 (.int (0 : Int32))).bind fun h5 =>
  (g_I 34 h5 l0 41).bind fun x7 =>
  (p_V 34 h5 l0 41 (.int (x7 + (1 : Int32)))).bind fun h9 =>
  if l1 = (7 : Int32) then
    (k_ok 34 h9 l0).bind fun _ =>
    (fX35_needExpanded N sE l0 h9).bind fun q13 =>
    (k_ok 34 q13.2 l0).bind fun _ =>
    (fX35_needExpanded N sE l0 q13.2).bind fun q15 =>
    (g_I 34 q15.2 l0 46).bind fun x16 =>
    if ¬ x16 = 0 then
      fX35_condition_b253 N sE sN l0 l1 l2 (0 : Int32) q15.2
    else
      if ¬ l1 = (8 : Int32) then
        fX35_condition_b226 N sE sN l0 l1 l2 (0 : Int32) q15.1 l0 q13.1 (0 : Int32) q15.2
      else
        fX35_condition_b226 N sE sN l0 l1 l2 (0 : Int32) q15.1 l0 q13.1 (1 : Int32) q15.2
  else
  if l1 = (8 : Int32) then
    (k_ok 34 h9 l0).bind fun _ =>
    (fX35_needExpanded N sE l0 h9).bind fun q22 =>
    (k_ok 34 q22.2 l0).bind fun _ =>
    (fX35_needExpanded N sE l0 q22.2).bind fun q24 =>
    (g_I 34 q24.2 l0 46).bind fun x25 =>
    if ¬ x25 = 0 then
      fX35_condition_b253 N sE sN l0 l1 l2 (0 : Int32) q24.2
    else
      if ¬ l1 = (8 : Int32) then
        fX35_condition_b226 N sE sN l0 l1 l2 (0 : Int32) q24.1 l0 q22.1 (0 : Int32) q24.2
      else
        fX35_condition_b226 N sE sN l0 l1 l2 (0 : Int32) q24.1 l0 q22.1 (1 : Int32) q24.2
  else
  if l1 = (9 : Int32) then
    (k_ok 34 h9 l0).bind fun _ =>
    (fX35_need N l0 h9).bind fun q31 =>
    (k_ok 34 q31.2 l0).bind fun _ =>
    (fX35_need N l0 q31.2).bind fun q33 =>
    (g_I 34 q33.2 l0 46).bind fun x34 =>
    if ¬ x34 = 0 then
      fX35_condition_b300 N sE sN l0 l1 l2 (0 : Int32) q33.2
    else
      (k_ok 34 q33.2 l0).bind fun _ =>
      (fX35_meaning l0 q31.1 q33.2).bind fun q38 =>
      (k_ok 34 q38.2 l0).bind fun _ =>
      (fX35_meaning l0 q33.1 q38.2).bind fun q40 =>
      (k_ok 34 q40.2 l0).bind fun _ =>
      (fX35_meanSame N l0 q38.1 q40.1 q40.2).bind fun q42 =>
      if q42.1 = 0 then
        fX35_condition_b300 N sE sN l0 l1 l2 (0 : Int32) q42.2
      else
        fX35_condition_b301 N sE sN l0 l1 l2 (0 : Int32) (1 : Int32) q42.2
  else
  if l1 = (10 : Int32) then
    (k_ok 34 h9 l0).bind fun _ =>
    (fX35_compare N sE sN l0 h9).bind fun q46 =>
    fX35_condition_b363 N sE sN l0 l1 l2 q46.1 (0 : Int32) q46.2
  else
  if l1 = (11 : Int32) then
    (k_ok 34 h9 l0).bind fun _ =>
    (fX35_compareSizes N sE sN l0 h9).bind fun q49 =>
    fX35_condition_b363 N sE sN l0 l1 l2 q49.1 (0 : Int32) q49.2
  else
  if l1 = (12 : Int32) then
    (k_ok 34 h9 l0).bind fun _ =>
    (sN l0 h9).bind fun q52 =>
    if (q52.1 - q52.1 / (2 : Int32) * (2 : Int32)) = 0 then
      fX35_condition_b327 N sE sN l0 l1 l2 (0 : Int32) (0 : Int32) q52.2
    else
      fX35_condition_b327 N sE sN l0 l1 l2 (0 : Int32) (1 : Int32) q52.2
  else
  if l1 = (13 : Int32) then
    (k_ok 34 h9 l0).bind fun _ =>
    (fX35_mode l0 h9).bind fun q56 =>
    if (2 : Int32) ≤ q56.1 then
      fX35_condition_b145 N sE sN l0 l1 l2 (0 : Int32) (0 : Int32) q56.2
    else
      fX35_condition_b145 N sE sN l0 l1 l2 (0 : Int32) (1 : Int32) q56.2
  else
  if l1 = (14 : Int32) then
    (k_ok 34 h9 l0).bind fun _ =>
    (fX35_mode l0 h9).bind fun q60 =>
    if q60.1 < (2 : Int32) then
      fX35_condition_b162 N sE sN l0 l1 l2 (0 : Int32) (0 : Int32) q60.2
    else
      fX35_condition_b162 N sE sN l0 l1 l2 (0 : Int32) (1 : Int32) q60.2
  else
  if l1 = (15 : Int32) then
    (k_ok 34 h9 l0).bind fun _ =>
    (fX35_small sN l0 (255 : Int32) h9).bind fun q64 =>
    (k_ok 34 q64.2 l0).bind fun _ =>
    (fX35_now l0 ((3299 : Int32) + q64.1) q64.2).bind fun q66 =>
    if 0 ≤ q66.1 then
      fX35_condition_b189 N sE sN l0 l1 l2 (0 : Int32) (0 : Int32) q66.2
    else
      fX35_condition_b189 N sE sN l0 l1 l2 (0 : Int32) (1 : Int32) q66.2
  else
  if l1 = (16 : Int32) then
    if ¬ l1 = (16 : Int32) then
      fX35_condition_b362 N sE sN l0 l1 l2 (0 : Int32) (0 : Int32) h9
    else
      fX35_condition_b362 N sE sN l0 l1 l2 (0 : Int32) (1 : Int32) h9
  else
  if l1 = (17 : Int32) then
    if ¬ l1 = (16 : Int32) then
      fX35_condition_b362 N sE sN l0 l1 l2 (0 : Int32) (0 : Int32) h9
    else
      fX35_condition_b362 N sE sN l0 l1 l2 (0 : Int32) (1 : Int32) h9
  else
  if l1 = (18 : Int32) then
    (k_ok 34 h9 l0).bind fun _ =>
    (sN l0 h9).bind fun q74 =>
    if ¬ q74.1 = 0 then
      fX35_condition_b347 N sE sN l0 l1 l2 q74.1 (0 : Int32) q74.2
    else
      fX35_condition_b347 N sE sN l0 l1 l2 q74.1 (1 : Int32) q74.2
  else
  if ¬ l1 = (16 : Int32) then
    fX35_condition_b362 N sE sN l0 l1 l2 (0 : Int32) (0 : Int32) h9
  else
    fX35_condition_b362 N sE sN l0 l1 l2 (0 : Int32) (1 : Int32) h9
theorem pX35_condition_b36 {w : eW} {d : Nat} {dr : Nat} (hd : dr + 12 ≤ d + 1) (hdr : 12 ≤ dr) {N : Nat} {sE : Nat → Int32 → eH → Option (Unit × eH)} {sN : Nat → eH → Option (Int32 × eH)} (hsE : ∀ a t0 h q, sE a t0 h = some q → wm w dr YX35_expand [.ref a, .int t0] h (e_is (e_rn c_V q))) (hsN : ∀ a h q, sN a h = some q → wm w dr YX35_number [.ref a] h (e_is (e_rn c_I q))) {l0 : Nat} {l1 : Int32} {l2 : Int32} {s0 : Nat} {s1 : Int32} {s2 : Int32} {h : eH} {q} (hf : fX35_condition_b36 N sE sN l0 l1 l2 s0 s1 s2 h = some q) : wp w (d + 1) YX35_condition 36 [some (.ref l0), some (.int l1), some (.int l2), none, none, none, none, none, none] [.int s2, .int s1, .ref s0] h (e_is (e_rn c_V q)) := by
  unfold fX35_condition_b36 at hf
  obtain ⟨h1, b2, hf⟩ := Option.bind_eq_some_iff.mp hf
  refine x_qZ b2 dX35_condition_36 ?_
  refine w_aload_n dX35_condition_37 rfl rfl ?_
  obtain ⟨a3, b4, hf⟩ := Option.bind_eq_some_iff.mp hf
  refine GX35_118 b4 dX35_condition_38 rfl ?_
  refine w_iload_n dX35_condition_41 rfl rfl ?_
  refine w_iconst dX35_condition_42 (v := 0) (by decide) ?_
  obtain ⟨h5, b6, hf⟩ := Option.bind_eq_some_iff.mp hf
  refine x_qI b6 dX35_condition_43 ?_
  refine w_aload_n dX35_condition_44 rfl rfl ?_
  refine w_dup dX35_condition_45 rfl ?_
  obtain ⟨x7, b8, hf⟩ := Option.bind_eq_some_iff.mp hf
  refine GX35_350 b8 dX35_condition_46 rfl ?_
  refine w_iconst dX35_condition_49 (v := 1) (by decide) ?_
  refine w_iadd dX35_condition_50 ?_
  obtain ⟨h9, b10, hf⟩ := Option.bind_eq_some_iff.mp hf
  refine SX35_350 b10 dX35_condition_51 rfl ?_
  refine w_iconst dX35_condition_54 (v := 0) (by decide) ?_
  refine w_istore_n dX35_condition_55 rfl (by decide) (ls' := [some (.ref l0), some (.int l1), some (.int l2), some (.int (0 : Int32)), none, none, none, none, none]) rfl ?_
  refine w_iconst dX35_condition_56 (v := 0) (by decide) ?_
  refine w_istore dX35_condition_57 (by decide) (ls' := [some (.ref l0), some (.int l1), some (.int l2), some (.int (0 : Int32)), some (.int (0 : Int32)), none, none, none, none]) rfl ?_
  refine w_iload_n dX35_condition_59 rfl rfl ?_
  by_cases c11 : l1 = (7 : Int32)
  · replace hf := (if_pos c11).symm.trans hf
    refine w_tableIn 193 dX35_condition_60 (by rw [c11]; decide) (by rw [c11]; decide) (by rw [c11]; rfl) (by decide) ?_
    refine w_aload_n dX35_condition_193 rfl rfl ?_
    obtain ⟨_, b12, hf⟩ := Option.bind_eq_some_iff.mp hf
    refine x_cnI hf (e_stV (Yc := YX35_needExpanded) (ci := 34) (av := []) (st := []) dX35_condition_194 q5193 mX35_needExpanded rfl (k_ok_some b12).1 (k_ok_some b12).2) mX35_needExpanded.2.2.1 mX35_needExpanded.2.2.2.2.1 (Nat.le_of_ble_eq_true rfl) (Nat.le_of_ble_eq_true rfl) (fun q hq => pX35_needExpanded (by omega) hdr hsE hq) (fun q13 hf => ?_)
    refine w_istore dX35_condition_197 (by decide) (ls' := [some (.ref l0), some (.int l1), some (.int l2), some (.int (0 : Int32)), some (.int (0 : Int32)), some (.int q13.1), none, none, none]) rfl ?_
    refine w_aload_n dX35_condition_199 rfl rfl ?_
    obtain ⟨_, b14, hf⟩ := Option.bind_eq_some_iff.mp hf
    refine x_cnI hf (e_stV (Yc := YX35_needExpanded) (ci := 34) (av := []) (st := []) dX35_condition_200 q5193 mX35_needExpanded rfl (k_ok_some b14).1 (k_ok_some b14).2) mX35_needExpanded.2.2.1 mX35_needExpanded.2.2.2.2.1 (Nat.le_of_ble_eq_true rfl) (Nat.le_of_ble_eq_true rfl) (fun q hq => pX35_needExpanded (by omega) hdr hsE hq) (fun q15 hf => ?_)
    refine w_istore dX35_condition_203 (by decide) (ls' := [some (.ref l0), some (.int l1), some (.int l2), some (.int (0 : Int32)), some (.int (0 : Int32)), some (.int q13.1), some (.int q15.1), none, none]) rfl ?_
    refine w_aload_n dX35_condition_205 rfl rfl ?_
    obtain ⟨x16, b17, hf⟩ := Option.bind_eq_some_iff.mp hf
    refine GX35_321 b17 dX35_condition_206 rfl ?_
    refine w_if_ne 253 dX35_condition_209 (by decide) (fun c18 => ?_) (fun c18 => ?_)
    · replace hf := (if_pos (show ¬ x16 = 0 from c18)).symm.trans hf
      exact (pX35_condition_b253 hd hdr hsE hsN hf).to ⟨rfl, rfl, rfl, rfl, trivial⟩
    · replace hf := (if_neg (show ¬ (¬ x16 = 0) from (fun z => z c18))).symm.trans hf
      refine w_aload_n dX35_condition_212 rfl rfl ?_
      refine w_iload dX35_condition_213 rfl ?_
      refine w_iload_n dX35_condition_215 rfl rfl ?_
      refine w_bipush dX35_condition_216 (v := 8) (by decide) ?_
      refine w_icmp_ne 225 dX35_condition_218 (by decide) (fun c19 => ?_) (fun c19 => ?_)
      · replace hf := (if_pos (show ¬ l1 = (8 : Int32) from c19)).symm.trans hf
        refine w_iconst dX35_condition_225 (v := 0) (by decide) ?_
        exact (pX35_condition_b226 hd hdr hsE hsN hf).to ⟨rfl, rfl, rfl, rfl, rfl, trivial⟩
      · replace hf := (if_neg (show ¬ (¬ l1 = (8 : Int32)) from (fun z => z c19))).symm.trans hf
        refine w_iconst dX35_condition_221 (v := 1) (by decide) ?_
        refine w_goto 226 dX35_condition_222 (by decide) ?_
        exact (pX35_condition_b226 hd hdr hsE hsN hf).to ⟨rfl, rfl, rfl, rfl, rfl, trivial⟩
  replace hf := (if_neg c11).symm.trans hf
  by_cases c20 : l1 = (8 : Int32)
  · replace hf := (if_pos c20).symm.trans hf
    refine w_tableIn 193 dX35_condition_60 (by rw [c20]; decide) (by rw [c20]; decide) (by rw [c20]; rfl) (by decide) ?_
    refine w_aload_n dX35_condition_193 rfl rfl ?_
    obtain ⟨_, b21, hf⟩ := Option.bind_eq_some_iff.mp hf
    refine x_cnI hf (e_stV (Yc := YX35_needExpanded) (ci := 34) (av := []) (st := []) dX35_condition_194 q5193 mX35_needExpanded rfl (k_ok_some b21).1 (k_ok_some b21).2) mX35_needExpanded.2.2.1 mX35_needExpanded.2.2.2.2.1 (Nat.le_of_ble_eq_true rfl) (Nat.le_of_ble_eq_true rfl) (fun q hq => pX35_needExpanded (by omega) hdr hsE hq) (fun q22 hf => ?_)
    refine w_istore dX35_condition_197 (by decide) (ls' := [some (.ref l0), some (.int l1), some (.int l2), some (.int (0 : Int32)), some (.int (0 : Int32)), some (.int q22.1), none, none, none]) rfl ?_
    refine w_aload_n dX35_condition_199 rfl rfl ?_
    obtain ⟨_, b23, hf⟩ := Option.bind_eq_some_iff.mp hf
    refine x_cnI hf (e_stV (Yc := YX35_needExpanded) (ci := 34) (av := []) (st := []) dX35_condition_200 q5193 mX35_needExpanded rfl (k_ok_some b23).1 (k_ok_some b23).2) mX35_needExpanded.2.2.1 mX35_needExpanded.2.2.2.2.1 (Nat.le_of_ble_eq_true rfl) (Nat.le_of_ble_eq_true rfl) (fun q hq => pX35_needExpanded (by omega) hdr hsE hq) (fun q24 hf => ?_)
    refine w_istore dX35_condition_203 (by decide) (ls' := [some (.ref l0), some (.int l1), some (.int l2), some (.int (0 : Int32)), some (.int (0 : Int32)), some (.int q22.1), some (.int q24.1), none, none]) rfl ?_
    refine w_aload_n dX35_condition_205 rfl rfl ?_
    obtain ⟨x25, b26, hf⟩ := Option.bind_eq_some_iff.mp hf
    refine GX35_321 b26 dX35_condition_206 rfl ?_
    refine w_if_ne 253 dX35_condition_209 (by decide) (fun c27 => ?_) (fun c27 => ?_)
    · replace hf := (if_pos (show ¬ x25 = 0 from c27)).symm.trans hf
      exact (pX35_condition_b253 hd hdr hsE hsN hf).to ⟨rfl, rfl, rfl, rfl, trivial⟩
    · replace hf := (if_neg (show ¬ (¬ x25 = 0) from (fun z => z c27))).symm.trans hf
      refine w_aload_n dX35_condition_212 rfl rfl ?_
      refine w_iload dX35_condition_213 rfl ?_
      refine w_iload_n dX35_condition_215 rfl rfl ?_
      refine w_bipush dX35_condition_216 (v := 8) (by decide) ?_
      refine w_icmp_ne 225 dX35_condition_218 (by decide) (fun c28 => ?_) (fun c28 => ?_)
      · replace hf := (if_pos (show ¬ l1 = (8 : Int32) from c28)).symm.trans hf
        refine w_iconst dX35_condition_225 (v := 0) (by decide) ?_
        exact (pX35_condition_b226 hd hdr hsE hsN hf).to ⟨rfl, rfl, rfl, rfl, rfl, trivial⟩
      · replace hf := (if_neg (show ¬ (¬ l1 = (8 : Int32)) from (fun z => z c28))).symm.trans hf
        refine w_iconst dX35_condition_221 (v := 1) (by decide) ?_
        refine w_goto 226 dX35_condition_222 (by decide) ?_
        exact (pX35_condition_b226 hd hdr hsE hsN hf).to ⟨rfl, rfl, rfl, rfl, rfl, trivial⟩
  replace hf := (if_neg c20).symm.trans hf
  by_cases c29 : l1 = (9 : Int32)
  · replace hf := (if_pos c29).symm.trans hf
    refine w_tableIn 258 dX35_condition_60 (by rw [c29]; decide) (by rw [c29]; decide) (by rw [c29]; rfl) (by decide) ?_
    refine w_aload_n dX35_condition_258 rfl rfl ?_
    obtain ⟨_, b30, hf⟩ := Option.bind_eq_some_iff.mp hf
    refine x_cnI hf (e_stV (Yc := YX35_need) (ci := 34) (av := []) (st := []) dX35_condition_259 q5154 mX35_need rfl (k_ok_some b30).1 (k_ok_some b30).2) mX35_need.2.2.1 mX35_need.2.2.2.2.1 (Nat.le_of_ble_eq_true rfl) (Nat.le_of_ble_eq_true rfl) (fun q hq => pX35_need (by omega) hq) (fun q31 hf => ?_)
    refine w_istore dX35_condition_262 (by decide) (ls' := [some (.ref l0), some (.int l1), some (.int l2), some (.int (0 : Int32)), some (.int (0 : Int32)), none, none, some (.int q31.1), none]) rfl ?_
    refine w_aload_n dX35_condition_264 rfl rfl ?_
    obtain ⟨_, b32, hf⟩ := Option.bind_eq_some_iff.mp hf
    refine x_cnI hf (e_stV (Yc := YX35_need) (ci := 34) (av := []) (st := []) dX35_condition_265 q5154 mX35_need rfl (k_ok_some b32).1 (k_ok_some b32).2) mX35_need.2.2.1 mX35_need.2.2.2.2.1 (Nat.le_of_ble_eq_true rfl) (Nat.le_of_ble_eq_true rfl) (fun q hq => pX35_need (by omega) hq) (fun q33 hf => ?_)
    refine w_istore dX35_condition_268 (by decide) (ls' := [some (.ref l0), some (.int l1), some (.int l2), some (.int (0 : Int32)), some (.int (0 : Int32)), none, none, some (.int q31.1), some (.int q33.1)]) rfl ?_
    refine w_aload_n dX35_condition_270 rfl rfl ?_
    obtain ⟨x34, b35, hf⟩ := Option.bind_eq_some_iff.mp hf
    refine GX35_321 b35 dX35_condition_271 rfl ?_
    refine w_if_ne 300 dX35_condition_274 (by decide) (fun c36 => ?_) (fun c36 => ?_)
    · replace hf := (if_pos (show ¬ x34 = 0 from c36)).symm.trans hf
      exact (pX35_condition_b300 hd hdr hsE hsN hf).to ⟨rfl, rfl, rfl, rfl, trivial⟩
    · replace hf := (if_neg (show ¬ (¬ x34 = 0) from (fun z => z c36))).symm.trans hf
      refine w_aload_n dX35_condition_277 rfl rfl ?_
      refine w_aload_n dX35_condition_278 rfl rfl ?_
      refine w_iload dX35_condition_279 rfl ?_
      obtain ⟨_, b37, hf⟩ := Option.bind_eq_some_iff.mp hf
      refine x_cnI hf (e_stV (Yc := YX35_meaning) (ci := 34) (av := [.int q31.1]) (st := [.ref l0]) dX35_condition_281 q5130 mX35_meaning rfl (k_ok_some b37).1 (k_ok_some b37).2) mX35_meaning.2.2.1 mX35_meaning.2.2.2.2.1 (Nat.le_of_ble_eq_true rfl) (Nat.le_of_ble_eq_true rfl) (fun q hq => pX35_meaning (by omega) hq) (fun q38 hf => ?_)
      refine w_aload_n dX35_condition_284 rfl rfl ?_
      refine w_iload dX35_condition_285 rfl ?_
      obtain ⟨_, b39, hf⟩ := Option.bind_eq_some_iff.mp hf
      refine x_cnI hf (e_stV (Yc := YX35_meaning) (ci := 34) (av := [.int q33.1]) (st := [.int q38.1, .ref l0]) dX35_condition_287 q5130 mX35_meaning rfl (k_ok_some b39).1 (k_ok_some b39).2) mX35_meaning.2.2.1 mX35_meaning.2.2.2.2.1 (Nat.le_of_ble_eq_true rfl) (Nat.le_of_ble_eq_true rfl) (fun q hq => pX35_meaning (by omega) hq) (fun q40 hf => ?_)
      obtain ⟨_, b41, hf⟩ := Option.bind_eq_some_iff.mp hf
      refine x_cnI hf (e_stV (Yc := YX35_meanSame) (ci := 34) (av := [.int q38.1, .int q40.1]) (st := []) dX35_condition_290 q5425 mX35_meanSame rfl (k_ok_some b41).1 (k_ok_some b41).2) mX35_meanSame.2.2.1 mX35_meanSame.2.2.2.2.1 (Nat.le_of_ble_eq_true rfl) (Nat.le_of_ble_eq_true rfl) (fun q hq => pX35_meanSame (by omega) hq) (fun q42 hf => ?_)
      refine w_if_eq 300 dX35_condition_293 (by decide) (fun c43 => ?_) (fun c43 => ?_)
      · replace hf := (if_pos (show q42.1 = 0 from c43)).symm.trans hf
        exact (pX35_condition_b300 hd hdr hsE hsN hf).to ⟨rfl, rfl, rfl, rfl, trivial⟩
      · replace hf := (if_neg (show ¬ (q42.1 = 0) from c43)).symm.trans hf
        refine w_iconst dX35_condition_296 (v := 1) (by decide) ?_
        refine w_goto 301 dX35_condition_297 (by decide) ?_
        exact (pX35_condition_b301 hd hdr hsE hsN hf).to ⟨rfl, rfl, rfl, rfl, trivial⟩
  replace hf := (if_neg c29).symm.trans hf
  by_cases c44 : l1 = (10 : Int32)
  · replace hf := (if_pos c44).symm.trans hf
    refine w_tableIn 305 dX35_condition_60 (by rw [c44]; decide) (by rw [c44]; decide) (by rw [c44]; rfl) (by decide) ?_
    refine w_aload_n dX35_condition_305 rfl rfl ?_
    obtain ⟨_, b45, hf⟩ := Option.bind_eq_some_iff.mp hf
    refine x_cnI hf (e_stV (Yc := YX35_compare) (ci := 34) (av := []) (st := []) dX35_condition_306 q5429 mX35_compare rfl (k_ok_some b45).1 (k_ok_some b45).2) mX35_compare.2.2.1 mX35_compare.2.2.2.2.1 (Nat.le_of_ble_eq_true rfl) (Nat.le_of_ble_eq_true rfl) (fun q hq => pX35_compare (by omega) hdr hsE hsN hq) (fun q46 hf => ?_)
    refine w_istore_n dX35_condition_309 rfl (by decide) (ls' := [some (.ref l0), some (.int l1), some (.int l2), some (.int q46.1), some (.int (0 : Int32)), none, none, none, none]) rfl ?_
    refine w_goto 363 dX35_condition_310 (by decide) ?_
    exact (pX35_condition_b363 hd hdr hsE hsN hf).to ⟨rfl, rfl, rfl, rfl, rfl, trivial⟩
  replace hf := (if_neg c44).symm.trans hf
  by_cases c47 : l1 = (11 : Int32)
  · replace hf := (if_pos c47).symm.trans hf
    refine w_tableIn 124 dX35_condition_60 (by rw [c47]; decide) (by rw [c47]; decide) (by rw [c47]; rfl) (by decide) ?_
    refine w_aload_n dX35_condition_124 rfl rfl ?_
    obtain ⟨_, b48, hf⟩ := Option.bind_eq_some_iff.mp hf
    refine x_cnI hf (e_stV (Yc := YX35_compareSizes) (ci := 34) (av := []) (st := []) dX35_condition_125 q5329 mX35_compareSizes rfl (k_ok_some b48).1 (k_ok_some b48).2) mX35_compareSizes.2.2.1 mX35_compareSizes.2.2.2.2.1 (Nat.le_of_ble_eq_true rfl) (Nat.le_of_ble_eq_true rfl) (fun q hq => pX35_compareSizes (by omega) hdr hsE hsN hq) (fun q49 hf => ?_)
    refine w_istore_n dX35_condition_128 rfl (by decide) (ls' := [some (.ref l0), some (.int l1), some (.int l2), some (.int q49.1), some (.int (0 : Int32)), none, none, none, none]) rfl ?_
    refine w_goto 363 dX35_condition_129 (by decide) ?_
    exact (pX35_condition_b363 hd hdr hsE hsN hf).to ⟨rfl, rfl, rfl, rfl, rfl, trivial⟩
  replace hf := (if_neg c47).symm.trans hf
  by_cases c50 : l1 = (12 : Int32)
  · replace hf := (if_pos c50).symm.trans hf
    refine w_tableIn 313 dX35_condition_60 (by rw [c50]; decide) (by rw [c50]; decide) (by rw [c50]; rfl) (by decide) ?_
    refine w_aload_n dX35_condition_313 rfl rfl ?_
    obtain ⟨_, b51, hf⟩ := Option.bind_eq_some_iff.mp hf
    refine x_cnI hf (e_stV (Yc := YX35_number) (ci := 34) (av := []) (st := []) dX35_condition_314 q5217 mX35_number rfl (k_ok_some b51).1 (k_ok_some b51).2) mX35_number.2.2.1 mX35_number.2.2.2.2.1 (Nat.le_of_ble_eq_true rfl) (Nat.le_of_ble_eq_true rfl) (fun q hq => (hsN _ _ _ hq).up (by omega)) (fun q52 hf => ?_)
    refine w_iconst dX35_condition_317 (v := 2) (by decide) ?_
    refine w_irem dX35_condition_318 (by decide) ?_
    refine w_if_eq 326 dX35_condition_319 (by decide) (fun c53 => ?_) (fun c53 => ?_)
    · replace hf := (if_pos (show (q52.1 - q52.1 / (2 : Int32) * (2 : Int32)) = 0 from c53)).symm.trans hf
      refine w_iconst dX35_condition_326 (v := 0) (by decide) ?_
      exact (pX35_condition_b327 hd hdr hsE hsN hf).to ⟨rfl, rfl, rfl, rfl, trivial⟩
    · replace hf := (if_neg (show ¬ ((q52.1 - q52.1 / (2 : Int32) * (2 : Int32)) = 0) from c53)).symm.trans hf
      refine w_iconst dX35_condition_322 (v := 1) (by decide) ?_
      refine w_goto 327 dX35_condition_323 (by decide) ?_
      exact (pX35_condition_b327 hd hdr hsE hsN hf).to ⟨rfl, rfl, rfl, rfl, trivial⟩
  replace hf := (if_neg c50).symm.trans hf
  by_cases c54 : l1 = (13 : Int32)
  · replace hf := (if_pos c54).symm.trans hf
    refine w_tableIn 132 dX35_condition_60 (by rw [c54]; decide) (by rw [c54]; decide) (by rw [c54]; rfl) (by decide) ?_
    refine w_aload_n dX35_condition_132 rfl rfl ?_
    obtain ⟨_, b55, hf⟩ := Option.bind_eq_some_iff.mp hf
    refine x_cnI hf (e_stV (Yc := YX35_mode) (ci := 34) (av := []) (st := []) dX35_condition_133 q5417 mX35_mode rfl (k_ok_some b55).1 (k_ok_some b55).2) mX35_mode.2.2.1 mX35_mode.2.2.2.2.1 (Nat.le_of_ble_eq_true rfl) (Nat.le_of_ble_eq_true rfl) (fun q hq => pX35_mode (by omega) hq) (fun q56 hf => ?_)
    refine w_iconst dX35_condition_136 (v := 2) (by decide) ?_
    refine w_icmp_ge 144 dX35_condition_137 (by decide) (fun c57 => ?_) (fun c57 => ?_)
    · replace hf := (if_pos (show (2 : Int32) ≤ q56.1 from c57)).symm.trans hf
      refine w_iconst dX35_condition_144 (v := 0) (by decide) ?_
      exact (pX35_condition_b145 hd hdr hsE hsN hf).to ⟨rfl, rfl, rfl, rfl, trivial⟩
    · replace hf := (if_neg (show ¬ ((2 : Int32) ≤ q56.1) from c57)).symm.trans hf
      refine w_iconst dX35_condition_140 (v := 1) (by decide) ?_
      refine w_goto 145 dX35_condition_141 (by decide) ?_
      exact (pX35_condition_b145 hd hdr hsE hsN hf).to ⟨rfl, rfl, rfl, rfl, trivial⟩
  replace hf := (if_neg c54).symm.trans hf
  by_cases c58 : l1 = (14 : Int32)
  · replace hf := (if_pos c58).symm.trans hf
    refine w_tableIn 149 dX35_condition_60 (by rw [c58]; decide) (by rw [c58]; decide) (by rw [c58]; rfl) (by decide) ?_
    refine w_aload_n dX35_condition_149 rfl rfl ?_
    obtain ⟨_, b59, hf⟩ := Option.bind_eq_some_iff.mp hf
    refine x_cnI hf (e_stV (Yc := YX35_mode) (ci := 34) (av := []) (st := []) dX35_condition_150 q5417 mX35_mode rfl (k_ok_some b59).1 (k_ok_some b59).2) mX35_mode.2.2.1 mX35_mode.2.2.2.2.1 (Nat.le_of_ble_eq_true rfl) (Nat.le_of_ble_eq_true rfl) (fun q hq => pX35_mode (by omega) hq) (fun q60 hf => ?_)
    refine w_iconst dX35_condition_153 (v := 2) (by decide) ?_
    refine w_icmp_lt 161 dX35_condition_154 (by decide) (fun c61 => ?_) (fun c61 => ?_)
    · replace hf := (if_pos (show q60.1 < (2 : Int32) from c61)).symm.trans hf
      refine w_iconst dX35_condition_161 (v := 0) (by decide) ?_
      exact (pX35_condition_b162 hd hdr hsE hsN hf).to ⟨rfl, rfl, rfl, rfl, trivial⟩
    · replace hf := (if_neg (show ¬ (q60.1 < (2 : Int32)) from c61)).symm.trans hf
      refine w_iconst dX35_condition_157 (v := 1) (by decide) ?_
      refine w_goto 162 dX35_condition_158 (by decide) ?_
      exact (pX35_condition_b162 hd hdr hsE hsN hf).to ⟨rfl, rfl, rfl, rfl, trivial⟩
  replace hf := (if_neg c58).symm.trans hf
  by_cases c62 : l1 = (15 : Int32)
  · replace hf := (if_pos c62).symm.trans hf
    refine w_tableIn 166 dX35_condition_60 (by rw [c62]; decide) (by rw [c62]; decide) (by rw [c62]; rfl) (by decide) ?_
    refine w_aload_n dX35_condition_166 rfl rfl ?_
    refine w_sipush dX35_condition_167 (v := 3299) (by decide) ?_
    refine w_aload_n dX35_condition_170 rfl rfl ?_
    refine w_sipush dX35_condition_171 (v := 255) (by decide) ?_
    obtain ⟨_, b63, hf⟩ := Option.bind_eq_some_iff.mp hf
    refine x_cnI hf (e_stV (Yc := YX35_small) (ci := 34) (av := [.int (255 : Int32)]) (st := [.int (3299 : Int32), .ref l0]) dX35_condition_174 q5271 mX35_small rfl (k_ok_some b63).1 (k_ok_some b63).2) mX35_small.2.2.1 mX35_small.2.2.2.2.1 (Nat.le_of_ble_eq_true rfl) (Nat.le_of_ble_eq_true rfl) (fun q hq => pX35_small (by omega) hdr hsN hq) (fun q64 hf => ?_)
    refine w_iadd dX35_condition_177 ?_
    obtain ⟨_, b65, hf⟩ := Option.bind_eq_some_iff.mp hf
    refine x_cnI hf (e_stV (Yc := YX35_now) (ci := 34) (av := [.int ((3299 : Int32) + q64.1)]) (st := []) dX35_condition_178 q5097 mX35_now rfl (k_ok_some b65).1 (k_ok_some b65).2) mX35_now.2.2.1 mX35_now.2.2.2.2.1 (Nat.le_of_ble_eq_true rfl) (Nat.le_of_ble_eq_true rfl) (fun q hq => pX35_now (by omega) hq) (fun q66 hf => ?_)
    refine w_if_ge 188 dX35_condition_181 (by decide) (fun c67 => ?_) (fun c67 => ?_)
    · replace hf := (if_pos (show 0 ≤ q66.1 from c67)).symm.trans hf
      refine w_iconst dX35_condition_188 (v := 0) (by decide) ?_
      exact (pX35_condition_b189 hd hdr hsE hsN hf).to ⟨rfl, rfl, rfl, rfl, trivial⟩
    · replace hf := (if_neg (show ¬ (0 ≤ q66.1) from c67)).symm.trans hf
      refine w_iconst dX35_condition_184 (v := 1) (by decide) ?_
      refine w_goto 189 dX35_condition_185 (by decide) ?_
      exact (pX35_condition_b189 hd hdr hsE hsN hf).to ⟨rfl, rfl, rfl, rfl, trivial⟩
  replace hf := (if_neg c62).symm.trans hf
  by_cases c68 : l1 = (16 : Int32)
  · replace hf := (if_pos c68).symm.trans hf
    refine w_tableIn 351 dX35_condition_60 (by rw [c68]; decide) (by rw [c68]; decide) (by rw [c68]; rfl) (by decide) ?_
    refine w_iload_n dX35_condition_351 rfl rfl ?_
    refine w_bipush dX35_condition_352 (v := 16) (by decide) ?_
    refine w_icmp_ne 361 dX35_condition_354 (by decide) (fun c69 => ?_) (fun c69 => ?_)
    · replace hf := (if_pos (show ¬ l1 = (16 : Int32) from c69)).symm.trans hf
      refine w_iconst dX35_condition_361 (v := 0) (by decide) ?_
      exact (pX35_condition_b362 hd hdr hsE hsN hf).to ⟨rfl, rfl, rfl, rfl, trivial⟩
    · replace hf := (if_neg (show ¬ (¬ l1 = (16 : Int32)) from (fun z => z c69))).symm.trans hf
      refine w_iconst dX35_condition_357 (v := 1) (by decide) ?_
      refine w_goto 362 dX35_condition_358 (by decide) ?_
      exact (pX35_condition_b362 hd hdr hsE hsN hf).to ⟨rfl, rfl, rfl, rfl, trivial⟩
  replace hf := (if_neg c68).symm.trans hf
  by_cases c70 : l1 = (17 : Int32)
  · replace hf := (if_pos c70).symm.trans hf
    refine w_tableIn 351 dX35_condition_60 (by rw [c70]; decide) (by rw [c70]; decide) (by rw [c70]; rfl) (by decide) ?_
    refine w_iload_n dX35_condition_351 rfl rfl ?_
    refine w_bipush dX35_condition_352 (v := 16) (by decide) ?_
    refine w_icmp_ne 361 dX35_condition_354 (by decide) (fun c71 => ?_) (fun c71 => ?_)
    · replace hf := (if_pos (show ¬ l1 = (16 : Int32) from c71)).symm.trans hf
      refine w_iconst dX35_condition_361 (v := 0) (by decide) ?_
      exact (pX35_condition_b362 hd hdr hsE hsN hf).to ⟨rfl, rfl, rfl, rfl, trivial⟩
    · replace hf := (if_neg (show ¬ (¬ l1 = (16 : Int32)) from (fun z => z c71))).symm.trans hf
      refine w_iconst dX35_condition_357 (v := 1) (by decide) ?_
      refine w_goto 362 dX35_condition_358 (by decide) ?_
      exact (pX35_condition_b362 hd hdr hsE hsN hf).to ⟨rfl, rfl, rfl, rfl, trivial⟩
  replace hf := (if_neg c70).symm.trans hf
  by_cases c72 : l1 = (18 : Int32)
  · replace hf := (if_pos c72).symm.trans hf
    refine w_tableIn 331 dX35_condition_60 (by rw [c72]; decide) (by rw [c72]; decide) (by rw [c72]; rfl) (by decide) ?_
    refine w_aload_n dX35_condition_331 rfl rfl ?_
    obtain ⟨_, b73, hf⟩ := Option.bind_eq_some_iff.mp hf
    refine x_cnI hf (e_stV (Yc := YX35_number) (ci := 34) (av := []) (st := []) dX35_condition_332 q5217 mX35_number rfl (k_ok_some b73).1 (k_ok_some b73).2) mX35_number.2.2.1 mX35_number.2.2.2.2.1 (Nat.le_of_ble_eq_true rfl) (Nat.le_of_ble_eq_true rfl) (fun q hq => (hsN _ _ _ hq).up (by omega)) (fun q74 hf => ?_)
    refine w_istore dX35_condition_335 (by decide) (ls' := [some (.ref l0), some (.int l1), some (.int l2), some (.int (0 : Int32)), some (.int q74.1), none, none, none, none]) rfl ?_
    refine w_iload dX35_condition_337 rfl ?_
    refine w_if_ne 346 dX35_condition_339 (by decide) (fun c75 => ?_) (fun c75 => ?_)
    · replace hf := (if_pos (show ¬ q74.1 = 0 from c75)).symm.trans hf
      refine w_iconst dX35_condition_346 (v := 0) (by decide) ?_
      exact (pX35_condition_b347 hd hdr hsE hsN hf).to ⟨rfl, rfl, rfl, rfl, trivial⟩
    · replace hf := (if_neg (show ¬ (¬ q74.1 = 0) from (fun z => z c75))).symm.trans hf
      refine w_iconst dX35_condition_342 (v := 1) (by decide) ?_
      refine w_goto 347 dX35_condition_343 (by decide) ?_
      exact (pX35_condition_b347 hd hdr hsE hsN hf).to ⟨rfl, rfl, rfl, rfl, trivial⟩
  replace hf := (if_neg c72).symm.trans hf
  refine w_tableOut 351 dX35_condition_60 (by have n0 := sw_ne c11 (by decide : (7 : Int32).toInt = 7); have n1 := sw_ne c20 (by decide : (8 : Int32).toInt = 8); have n2 := sw_ne c29 (by decide : (9 : Int32).toInt = 9); have n3 := sw_ne c44 (by decide : (10 : Int32).toInt = 10); have n4 := sw_ne c47 (by decide : (11 : Int32).toInt = 11); have n5 := sw_ne c50 (by decide : (12 : Int32).toInt = 12); have n6 := sw_ne c54 (by decide : (13 : Int32).toInt = 13); have n7 := sw_ne c58 (by decide : (14 : Int32).toInt = 14); have n8 := sw_ne c62 (by decide : (15 : Int32).toInt = 15); have n9 := sw_ne c68 (by decide : (16 : Int32).toInt = 16); have n10 := sw_ne c70 (by decide : (17 : Int32).toInt = 17); have n11 := sw_ne c72 (by decide : (18 : Int32).toInt = 18); omega) (by decide) ?_
  refine w_iload_n dX35_condition_351 rfl rfl ?_
  refine w_bipush dX35_condition_352 (v := 16) (by decide) ?_
  refine w_icmp_ne 361 dX35_condition_354 (by decide) (fun c76 => ?_) (fun c76 => ?_)
  · replace hf := (if_pos (show ¬ l1 = (16 : Int32) from c76)).symm.trans hf
    refine w_iconst dX35_condition_361 (v := 0) (by decide) ?_
    exact (pX35_condition_b362 hd hdr hsE hsN hf).to ⟨rfl, rfl, rfl, rfl, trivial⟩
  · replace hf := (if_neg (show ¬ (¬ l1 = (16 : Int32)) from (fun z => z c76))).symm.trans hf
    refine w_iconst dX35_condition_357 (v := 1) (by decide) ?_
    refine w_goto 362 dX35_condition_358 (by decide) ?_
    exact (pX35_condition_b362 hd hdr hsE hsN hf).to ⟨rfl, rfl, rfl, rfl, trivial⟩
def fX35_condition (N : Nat) (sE : Nat → Int32 → eH → Option (Unit × eH)) (sN : Nat → eH → Option (Int32 × eH)) (this : Nat) (p0 : Int32) (h : eH) : Option (Unit × eH) :=
  (g_I 34 h this 41).bind fun x1 =>
  if ¬ x1 = (100 : Int32) then
    (g_I 34 h this 41).bind fun x4 =>
    (g_A 34 h this 42).bind fun a6 =>
    if ¬ p0 = (18 : Int32) then
      fX35_condition_b36 N sE sN this p0 x4 a6 x4 (0 : Int32) h
    else
      fX35_condition_b36 N sE sN this p0 x4 a6 x4 (1 : Int32) h
  else
    (k_ok 34 h this).bind fun _ =>
    (fX35_fail this (2 : Int32) h).bind fun q10 =>
    some ((), q10.2)
theorem pX35_condition {w : eW} {d : Nat} {dr : Nat} (hd : dr + 12 ≤ d) (hdr : 12 ≤ dr) {N : Nat} {sE : Nat → Int32 → eH → Option (Unit × eH)} {sN : Nat → eH → Option (Int32 × eH)} (hsE : ∀ a t0 h q, sE a t0 h = some q → wm w dr YX35_expand [.ref a, .int t0] h (e_is (e_rn c_V q))) (hsN : ∀ a h q, sN a h = some q → wm w dr YX35_number [.ref a] h (e_is (e_rn c_I q))) {this : Nat} {p0 : Int32} {h : eH} {q} (hf : fX35_condition N sE sN this p0 h = some q) : wm w d YX35_condition [.ref this, .int p0] h (e_is (e_rn c_V q)) := by
  obtain ⟨d, rfl⟩ : ∃ e, d = e + 1 := ⟨d - 1, by omega⟩
  show wp w (d + 1) YX35_condition 0 [some (.ref this), some (.int p0), none, none, none, none, none, none, none] [] h _
  unfold fX35_condition at hf
  refine w_aload_n dX35_condition_0 rfl rfl ?_
  obtain ⟨x1, b2, hf⟩ := Option.bind_eq_some_iff.mp hf
  refine GX35_350 b2 dX35_condition_1 rfl ?_
  refine w_bipush dX35_condition_4 (v := 100) (by decide) ?_
  refine w_icmp_ne 15 dX35_condition_6 (by decide) (fun c3 => ?_) (fun c3 => ?_)
  · replace hf := (if_pos (show ¬ x1 = (100 : Int32) from c3)).symm.trans hf
    refine w_aload_n dX35_condition_15 rfl rfl ?_
    obtain ⟨x4, b5, hf⟩ := Option.bind_eq_some_iff.mp hf
    refine GX35_350 b5 dX35_condition_16 rfl ?_
    refine w_istore_n dX35_condition_19 rfl (by decide) (ls' := [some (.ref this), some (.int p0), some (.int x4), none, none, none, none, none, none]) rfl ?_
    refine w_aload_n dX35_condition_20 rfl rfl ?_
    obtain ⟨a6, b7, hf⟩ := Option.bind_eq_some_iff.mp hf
    refine GX35_115 b7 dX35_condition_21 rfl ?_
    refine w_iload_n dX35_condition_24 rfl rfl ?_
    refine w_iload_n dX35_condition_25 rfl rfl ?_
    refine w_bipush dX35_condition_26 (v := 18) (by decide) ?_
    refine w_icmp_ne 35 dX35_condition_28 (by decide) (fun c8 => ?_) (fun c8 => ?_)
    · replace hf := (if_pos (show ¬ p0 = (18 : Int32) from c8)).symm.trans hf
      refine w_iconst dX35_condition_35 (v := 0) (by decide) ?_
      exact (pX35_condition_b36 hd hdr hsE hsN hf).to ⟨rfl, rfl, rfl, trivial⟩
    · replace hf := (if_neg (show ¬ (¬ p0 = (18 : Int32)) from (fun z => z c8))).symm.trans hf
      refine w_iconst dX35_condition_31 (v := 1) (by decide) ?_
      refine w_goto 36 dX35_condition_32 (by decide) ?_
      exact (pX35_condition_b36 hd hdr hsE hsN hf).to ⟨rfl, rfl, rfl, trivial⟩
  · replace hf := (if_neg (show ¬ (¬ x1 = (100 : Int32)) from (fun z => z c3))).symm.trans hf
    refine w_aload_n dX35_condition_9 rfl rfl ?_
    refine w_iconst dX35_condition_10 (v := 2) (by decide) ?_
    obtain ⟨_, b9, hf⟩ := Option.bind_eq_some_iff.mp hf
    refine x_cnV hf (e_stV (Yc := YX35_fail) (ci := 34) (av := [.int (2 : Int32)]) (st := []) dX35_condition_11 q5109 mX35_fail rfl (k_ok_some b9).1 (k_ok_some b9).2) mX35_fail.2.2.1 mX35_fail.2.2.2.2.1 (Nat.le_of_ble_eq_true rfl) (Nat.le_of_ble_eq_true rfl) (fun q hq => pX35_fail (by omega) hq) (fun q10 hf => ?_)
    cases hf
    exact w_vret dX35_condition_14 rfl rfl
abbrev cX35_count : ByteArray := prog_37_method_11_code
def yX35_count : MethodName := ⟨RX35, "count", "(I)I"⟩
def YX35_count : eY := (yX35_count, cX35_count, 2, (Option.some FieldType.int), [])
theorem mX35_count : e_mv YX35_count RX35 1 := ⟨q6073, q6074, q6075, by decide, by decide +kernel, (e_sig (by decide +kernel))⟩
theorem dX35_count_0 : decode cX35_count 0 = .ok (.aload_n 0, 1) := dc_42 (by decide +kernel)
theorem dX35_count_1 : decode cX35_count 1 = .ok (.iload_n 1, 1) := dc_27 (by decide +kernel)
theorem dX35_count_2 : decode cX35_count 2 = .ok (.ifCond .lt 10, 3) := dc_155 (a := 0) (b := 10) (v := 10) (by decide +kernel)
theorem dX35_count_5 : decode cX35_count 5 = .ok (.iload_n 1, 1) := dc_27 (by decide +kernel)
theorem dX35_count_6 : decode cX35_count 6 = .ok (.sipush 255, 3) := dc_17 (a := 0) (b := 255) (v := 255) (by decide +kernel)
theorem dX35_count_9 : decode cX35_count 9 = .ok (.if_icmp .le 7, 3) := dc_164 (a := 0) (b := 7) (v := 7) (by decide +kernel)
theorem dX35_count_12 : decode cX35_count 12 = .ok (.iconst 1, 1) := dc_4 (by decide +kernel)
theorem dX35_count_13 : decode cX35_count 13 = .ok (.goto 4, 3) := dc_167 (a := 0) (b := 4) (v := 4) (by decide +kernel)
theorem dX35_count_16 : decode cX35_count 16 = .ok (.iconst 0, 1) := dc_3 (by decide +kernel)
theorem dX35_count_17 : decode cX35_count 17 = .ok (.putfield 252, 3) := dc_181 (a := 0) (b := 252) (n := 252) (by decide +kernel)
theorem dX35_count_20 : decode cX35_count 20 = .ok (.aload_n 0, 1) := dc_42 (by decide +kernel)
theorem dX35_count_21 : decode cX35_count 21 = .ok (.getfield 252, 3) := dc_180 (a := 0) (b := 252) (n := 252) (by decide +kernel)
theorem dX35_count_24 : decode cX35_count 24 = .ok (.ifCond .le 7, 3) := dc_158 (a := 0) (b := 7) (v := 7) (by decide +kernel)
theorem dX35_count_27 : decode cX35_count 27 = .ok (.iconst 0, 1) := dc_3 (by decide +kernel)
theorem dX35_count_28 : decode cX35_count 28 = .ok (.goto 13, 3) := dc_167 (a := 0) (b := 13) (v := 13) (by decide +kernel)
theorem dX35_count_31 : decode cX35_count 31 = .ok (.aload_n 0, 1) := dc_42 (by decide +kernel)
theorem dX35_count_32 : decode cX35_count 32 = .ok (.getfield 65, 3) := dc_180 (a := 0) (b := 65) (n := 65) (by decide +kernel)
theorem dX35_count_35 : decode cX35_count 35 = .ok (.sipush 1716, 3) := dc_17 (a := 6) (b := 180) (v := 1716) (by decide +kernel)
theorem dX35_count_38 : decode cX35_count 38 = .ok (.iload_n 1, 1) := dc_27 (by decide +kernel)
theorem dX35_count_39 : decode cX35_count 39 = .ok (.iadd, 1) := dc_96 (by decide +kernel)
theorem dX35_count_40 : decode cX35_count 40 = .ok (.iaload, 1) := dc_46 (by decide +kernel)
theorem dX35_count_41 : decode cX35_count 41 = .ok (.ireturn, 1) := dc_172 (by decide +kernel)
def fX35_count_b41 (s0 : Int32) (h : eH) : Option (Int32 × eH) :=
  some (s0, h)
theorem pX35_count_b41 {w : eW} {d : Nat} (hd : 0 ≤ d) {s0 : Int32} {h : eH} {q} (hf : fX35_count_b41 s0 h = some q) : wp w d YX35_count 41 [none, none] [.int s0] h (e_is (e_rn c_I q)) := by
  unfold fX35_count_b41 at hf
  cases hf
  exact w_iret dX35_count_41 rfl rfl rfl
def fX35_count_b17 (l0 : Nat) (l1 : Int32) (s0 : Nat) (s1 : Int32) (h : eH) : Option (Int32 × eH) :=
  (p_V 34 h s0 0 (.int s1)).bind fun h1 =>
  (g_I 34 h1 l0 0).bind fun x3 =>
  if x3 ≤ 0 then
    (g_A 34 h1 l0 22).bind fun a6 =>
    (r_I 100 h1 a6 ((1716 : Int32) + l1)).bind fun x8 =>
    fX35_count_b41 x8 h1
  else
    fX35_count_b41 (0 : Int32) h1
theorem pX35_count_b17 {w : eW} {d : Nat} (hd : 0 ≤ d) {l0 : Nat} {l1 : Int32} {s0 : Nat} {s1 : Int32} {h : eH} {q} (hf : fX35_count_b17 l0 l1 s0 s1 h = some q) : wp w d YX35_count 17 [some (.ref l0), some (.int l1)] [.int s1, .ref s0] h (e_is (e_rn c_I q)) := by
  unfold fX35_count_b17 at hf
  obtain ⟨h1, b2, hf⟩ := Option.bind_eq_some_iff.mp hf
  refine SX35_252 b2 dX35_count_17 rfl ?_
  refine w_aload_n dX35_count_20 rfl rfl ?_
  obtain ⟨x3, b4, hf⟩ := Option.bind_eq_some_iff.mp hf
  refine GX35_252 b4 dX35_count_21 rfl ?_
  refine w_if_le 31 dX35_count_24 (by decide) (fun c5 => ?_) (fun c5 => ?_)
  · replace hf := (if_pos (show x3 ≤ 0 from c5)).symm.trans hf
    refine w_aload_n dX35_count_31 rfl rfl ?_
    obtain ⟨a6, b7, hf⟩ := Option.bind_eq_some_iff.mp hf
    refine GX35_65 b7 dX35_count_32 rfl ?_
    refine w_sipush dX35_count_35 (v := 1716) (by decide) ?_
    refine w_iload_n dX35_count_38 rfl rfl ?_
    refine w_iadd dX35_count_39 ?_
    obtain ⟨x8, b9, hf⟩ := Option.bind_eq_some_iff.mp hf
    refine x_rI b9 dX35_count_40 ?_
    exact (pX35_count_b41 hd hf).to trivial
  · replace hf := (if_neg (show ¬ (x3 ≤ 0) from c5)).symm.trans hf
    refine w_iconst dX35_count_27 (v := 0) (by decide) ?_
    refine w_goto 41 dX35_count_28 (by decide) ?_
    exact (pX35_count_b41 hd hf).to trivial
def fX35_count_b12 (l0 : Nat) (l1 : Int32) (s0 : Nat) (h : eH) : Option (Int32 × eH) :=
  fX35_count_b17 l0 l1 s0 (1 : Int32) h
theorem pX35_count_b12 {w : eW} {d : Nat} (hd : 0 ≤ d) {l0 : Nat} {l1 : Int32} {s0 : Nat} {h : eH} {q} (hf : fX35_count_b12 l0 l1 s0 h = some q) : wp w d YX35_count 12 [some (.ref l0), some (.int l1)] [.ref s0] h (e_is (e_rn c_I q)) := by
  unfold fX35_count_b12 at hf
  refine w_iconst dX35_count_12 (v := 1) (by decide) ?_
  refine w_goto 17 dX35_count_13 (by decide) ?_
  exact (pX35_count_b17 hd hf).to ⟨rfl, rfl, trivial⟩
def fX35_count (this : Nat) (p0 : Int32) (h : eH) : Option (Int32 × eH) :=
  if p0 < 0 then
    fX35_count_b12 this p0 this h
  else
    if p0 ≤ (255 : Int32) then
      fX35_count_b17 this p0 this (0 : Int32) h
    else
      fX35_count_b12 this p0 this h
theorem pX35_count {w : eW} {d : Nat} (hd : 0 ≤ d) {this : Nat} {p0 : Int32} {h : eH} {q} (hf : fX35_count this p0 h = some q) : wm w d YX35_count [.ref this, .int p0] h (e_is (e_rn c_I q)) := by
  show wp w d YX35_count 0 [some (.ref this), some (.int p0)] [] h _
  unfold fX35_count at hf
  refine w_aload_n dX35_count_0 rfl rfl ?_
  refine w_iload_n dX35_count_1 rfl rfl ?_
  refine w_if_lt 12 dX35_count_2 (by decide) (fun c1 => ?_) (fun c1 => ?_)
  · replace hf := (if_pos (show p0 < 0 from c1)).symm.trans hf
    exact (pX35_count_b12 hd hf).to ⟨rfl, rfl, trivial⟩
  · replace hf := (if_neg (show ¬ (p0 < 0) from c1)).symm.trans hf
    refine w_iload_n dX35_count_5 rfl rfl ?_
    refine w_sipush dX35_count_6 (v := 255) (by decide) ?_
    refine w_icmp_le 16 dX35_count_9 (by decide) (fun c2 => ?_) (fun c2 => ?_)
    · replace hf := (if_pos (show p0 ≤ (255 : Int32) from c2)).symm.trans hf
      refine w_iconst dX35_count_16 (v := 0) (by decide) ?_
      exact (pX35_count_b17 hd hf).to ⟨rfl, rfl, trivial⟩
    · replace hf := (if_neg (show ¬ (p0 ≤ (255 : Int32)) from c2)).symm.trans hf
      exact (pX35_count_b12 hd hf).to ⟨rfl, rfl, trivial⟩
abbrev cX35_target : ByteArray := prog_37_method_98_code
def yX35_target : MethodName := ⟨RX35, "target", "()I"⟩
def YX35_target : eY := (yX35_target, cX35_target, 2, (Option.some FieldType.int), [])
theorem mX35_target : e_mv YX35_target RX35 0 := ⟨q5928, qs400, q5929, by decide, by decide +kernel, (e_sig (by decide +kernel))⟩
theorem dX35_target_0 : decode cX35_target 0 = .ok (.aload_n 0, 1) := dc_42 (by decide +kernel)
theorem dX35_target_1 : decode cX35_target 1 = .ok (.invokevirtual 506, 3) := dc_182 (a := 1) (b := 250) (n := 506) (by decide +kernel)
theorem dX35_target_4 : decode cX35_target 4 = .ok (.istore_n 1, 1) := dc_60 (by decide +kernel)
theorem dX35_target_5 : decode cX35_target 5 = .ok (.iload_n 1, 1) := dc_27 (by decide +kernel)
theorem dX35_target_6 : decode cX35_target 6 = .ok (.bipush 10, 2) := dc_16 (a := 10) (v := 10) (by decide +kernel)
theorem dX35_target_8 : decode cX35_target 8 = .ok (.invokestatic 493, 3) := dc_184 (a := 1) (b := 237) (n := 493) (by decide +kernel)
theorem dX35_target_11 : decode cX35_target 11 = .ok (.ifCond .eq 11, 3) := dc_153 (a := 0) (b := 11) (v := 11) (by decide +kernel)
theorem dX35_target_14 : decode cX35_target 14 = .ok (.aload_n 0, 1) := dc_42 (by decide +kernel)
theorem dX35_target_15 : decode cX35_target 15 = .ok (.invokevirtual 506, 3) := dc_182 (a := 1) (b := 250) (n := 506) (by decide +kernel)
theorem dX35_target_18 : decode cX35_target 18 = .ok (.istore_n 1, 1) := dc_60 (by decide +kernel)
theorem dX35_target_19 : decode cX35_target 19 = .ok (.goto (-14), 3) := dc_167 (a := 255) (b := 242) (v := -14) (by decide +kernel)
theorem dX35_target_22 : decode cX35_target 22 = .ok (.aload_n 0, 1) := dc_42 (by decide +kernel)
theorem dX35_target_23 : decode cX35_target 23 = .ok (.getfield 321, 3) := dc_180 (a := 1) (b := 65) (n := 321) (by decide +kernel)
theorem dX35_target_26 : decode cX35_target 26 = .ok (.ifCond .ne 16, 3) := dc_154 (a := 0) (b := 16) (v := 16) (by decide +kernel)
theorem dX35_target_29 : decode cX35_target 29 = .ok (.iload_n 1, 1) := dc_27 (by decide +kernel)
theorem dX35_target_30 : decode cX35_target 30 = .ok (.invokestatic 459, 3) := dc_184 (a := 1) (b := 203) (n := 459) (by decide +kernel)
theorem dX35_target_33 : decode cX35_target 33 = .ok (.ifCond .eq 9, 3) := dc_153 (a := 0) (b := 9) (v := 9) (by decide +kernel)
theorem dX35_target_36 : decode cX35_target 36 = .ok (.aload_n 0, 1) := dc_42 (by decide +kernel)
theorem dX35_target_37 : decode cX35_target 37 = .ok (.bipush 6, 2) := dc_16 (a := 6) (v := 6) (by decide +kernel)
theorem dX35_target_39 : decode cX35_target 39 = .ok (.invokevirtual 428, 3) := dc_182 (a := 1) (b := 172) (n := 428) (by decide +kernel)
theorem dX35_target_42 : decode cX35_target 42 = .ok (.aload_n 0, 1) := dc_42 (by decide +kernel)
theorem dX35_target_43 : decode cX35_target 43 = .ok (.getfield 321, 3) := dc_180 (a := 1) (b := 65) (n := 321) (by decide +kernel)
theorem dX35_target_46 : decode cX35_target 46 = .ok (.ifCond .le 8, 3) := dc_158 (a := 0) (b := 8) (v := 8) (by decide +kernel)
theorem dX35_target_49 : decode cX35_target 49 = .ok (.ldc 7, 2) := dc_18 (a := 7) (by decide +kernel)
theorem dX35_target_51 : decode cX35_target 51 = .ok (.goto 7, 3) := dc_167 (a := 0) (b := 7) (v := 7) (by decide +kernel)
theorem dX35_target_54 : decode cX35_target 54 = .ok (.iload_n 1, 1) := dc_27 (by decide +kernel)
theorem dX35_target_55 : decode cX35_target 55 = .ok (.invokestatic 464, 3) := dc_184 (a := 1) (b := 208) (n := 464) (by decide +kernel)
theorem dX35_target_58 : decode cX35_target 58 = .ok (.ireturn, 1) := dc_172 (by decide +kernel)
def fX35_target_b58 (N : Nat) (s0 : Int32) (h : eH) : Option (Int32 × eH) :=
  some (s0, h)
theorem pX35_target_b58 {w : eW} {d : Nat} (hd : 6 ≤ d + 1) {N : Nat} {s0 : Int32} {h : eH} {q} (hf : fX35_target_b58 N s0 h = some q) : wp w (d + 1) YX35_target 58 [none, none] [.int s0] h (e_is (e_rn c_I q)) := by
  unfold fX35_target_b58 at hf
  cases hf
  exact w_iret dX35_target_58 rfl rfl rfl
def fX35_target_b42 (N : Nat) (l0 : Nat) (l1 : Int32) (h : eH) : Option (Int32 × eH) :=
  (g_I 34 h l0 46).bind fun x1 =>
  if x1 ≤ 0 then
    (fX35_bare l1 h).bind fun q4 =>
    fX35_target_b58 N q4.1 q4.2
  else
    fX35_target_b58 N (65536 : Int32) h
theorem pX35_target_b42 {w : eW} {d : Nat} (hd : 6 ≤ d + 1) {N : Nat} {l0 : Nat} {l1 : Int32} {h : eH} {q} (hf : fX35_target_b42 N l0 l1 h = some q) : wp w (d + 1) YX35_target 42 [some (.ref l0), some (.int l1)] [] h (e_is (e_rn c_I q)) := by
  unfold fX35_target_b42 at hf
  refine w_aload_n dX35_target_42 rfl rfl ?_
  obtain ⟨x1, b2, hf⟩ := Option.bind_eq_some_iff.mp hf
  refine GX35_321 b2 dX35_target_43 rfl ?_
  refine w_if_le 54 dX35_target_46 (by decide) (fun c3 => ?_) (fun c3 => ?_)
  · replace hf := (if_pos (show x1 ≤ 0 from c3)).symm.trans hf
    refine w_iload_n dX35_target_54 rfl rfl ?_
    refine x_cnI hf (e_stS (Yc := YX35_bare) (av := [.int l1]) (st := []) dX35_target_55 q5139 mX35_bare) mX35_bare.2.2.1 mX35_bare.2.2.2.2.1 (Nat.le_of_ble_eq_true rfl) (Nat.le_of_ble_eq_true rfl) (fun q hq => pX35_bare (by omega) hq) (fun q4 hf => ?_)
    exact (pX35_target_b58 hd hf).to trivial
  · replace hf := (if_neg (show ¬ (x1 ≤ 0) from c3)).symm.trans hf
    refine w_ldc dX35_target_49 q4119 ?_
    refine w_goto 58 dX35_target_51 (by decide) ?_
    exact (pX35_target_b58 hd hf).to trivial
def fX35_target_b5 (N : Nat) : Nat → Nat → Int32 → eH → Option (Int32 × eH)
  | 0, _, _, _ => none
  | n + 1, l0, l1, h =>
    (fX35_isOf l1 (10 : Int32) h).bind fun q1 =>
    if q1.1 = 0 then
      (g_I 34 q1.2 l0 46).bind fun x3 =>
      if ¬ x3 = 0 then
        fX35_target_b42 N l0 l1 q1.2
      else
        (fX35_isCharacter l1 q1.2).bind fun q6 =>
        if q6.1 = 0 then
          fX35_target_b42 N l0 l1 q6.2
        else
          (k_ok 34 q6.2 l0).bind fun _ =>
          (fX35_fail l0 (6 : Int32) q6.2).bind fun q9 =>
          fX35_target_b42 N l0 l1 q9.2
    else
      (k_ok 34 q1.2 l0).bind fun _ =>
      (fX35_need N l0 q1.2).bind fun q11 =>
      fX35_target_b5 N n l0 q11.1 q11.2
theorem pX35_target_b5 {w : eW} {d : Nat} (hd : 6 ≤ d + 1) {N : Nat} : ∀ (n : Nat) l0 l1 h q, fX35_target_b5 N n l0 l1 h = some q → wp w (d + 1) YX35_target 5 [some (.ref l0), some (.int l1)] [] h (e_is (e_rn c_I q)) := by
  intro n
  induction n with
  | zero => intro l0 l1 h q hf; simp [fX35_target_b5] at hf
  | succ n ih =>
    intro l0 l1 h q hf
    rw [fX35_target_b5] at hf
    refine w_iload_n dX35_target_5 rfl rfl ?_
    refine w_bipush dX35_target_6 (v := 10) (by decide) ?_
    refine x_cnI hf (e_stS (Yc := YX35_isOf) (av := [.int l1, .int (10 : Int32)]) (st := []) dX35_target_8 q5166 mX35_isOf) mX35_isOf.2.2.1 mX35_isOf.2.2.2.2.1 (Nat.le_of_ble_eq_true rfl) (Nat.le_of_ble_eq_true rfl) (fun q hq => pX35_isOf (by omega) hq) (fun q1 hf => ?_)
    refine w_if_eq 22 dX35_target_11 (by decide) (fun c2 => ?_) (fun c2 => ?_)
    · replace hf := (if_pos (show q1.1 = 0 from c2)).symm.trans hf
      refine w_aload_n dX35_target_22 rfl rfl ?_
      obtain ⟨x3, b4, hf⟩ := Option.bind_eq_some_iff.mp hf
      refine GX35_321 b4 dX35_target_23 rfl ?_
      refine w_if_ne 42 dX35_target_26 (by decide) (fun c5 => ?_) (fun c5 => ?_)
      · replace hf := (if_pos (show ¬ x3 = 0 from c5)).symm.trans hf
        exact (pX35_target_b42 hd hf).to ⟨rfl, rfl, trivial⟩
      · replace hf := (if_neg (show ¬ (¬ x3 = 0) from (fun z => z c5))).symm.trans hf
        refine w_iload_n dX35_target_29 rfl rfl ?_
        refine x_cnI hf (e_stS (Yc := YX35_isCharacter) (av := [.int l1]) (st := []) dX35_target_30 q5127 mX35_isCharacter) mX35_isCharacter.2.2.1 mX35_isCharacter.2.2.2.2.1 (Nat.le_of_ble_eq_true rfl) (Nat.le_of_ble_eq_true rfl) (fun q hq => pX35_isCharacter (by omega) hq) (fun q6 hf => ?_)
        refine w_if_eq 42 dX35_target_33 (by decide) (fun c7 => ?_) (fun c7 => ?_)
        · replace hf := (if_pos (show q6.1 = 0 from c7)).symm.trans hf
          exact (pX35_target_b42 hd hf).to ⟨rfl, rfl, trivial⟩
        · replace hf := (if_neg (show ¬ (q6.1 = 0) from c7)).symm.trans hf
          refine w_aload_n dX35_target_36 rfl rfl ?_
          refine w_bipush dX35_target_37 (v := 6) (by decide) ?_
          obtain ⟨_, b8, hf⟩ := Option.bind_eq_some_iff.mp hf
          refine x_cnV hf (e_stV (Yc := YX35_fail) (ci := 34) (av := [.int (6 : Int32)]) (st := []) dX35_target_39 q5109 mX35_fail rfl (k_ok_some b8).1 (k_ok_some b8).2) mX35_fail.2.2.1 mX35_fail.2.2.2.2.1 (Nat.le_of_ble_eq_true rfl) (Nat.le_of_ble_eq_true rfl) (fun q hq => pX35_fail (by omega) hq) (fun q9 hf => ?_)
          exact (pX35_target_b42 hd hf).to ⟨rfl, rfl, trivial⟩
    · replace hf := (if_neg (show ¬ (q1.1 = 0) from c2)).symm.trans hf
      refine w_aload_n dX35_target_14 rfl rfl ?_
      obtain ⟨_, b10, hf⟩ := Option.bind_eq_some_iff.mp hf
      refine x_cnI hf (e_stV (Yc := YX35_need) (ci := 34) (av := []) (st := []) dX35_target_15 q5154 mX35_need rfl (k_ok_some b10).1 (k_ok_some b10).2) mX35_need.2.2.1 mX35_need.2.2.2.2.1 (Nat.le_of_ble_eq_true rfl) (Nat.le_of_ble_eq_true rfl) (fun q hq => pX35_need (by omega) hq) (fun q11 hf => ?_)
      refine w_istore_n dX35_target_18 rfl (by decide) (ls' := [some (.ref l0), some (.int q11.1)]) rfl ?_
      refine w_goto 5 dX35_target_19 (by decide) ?_
      exact (ih _ _ _ _ hf).to ⟨rfl, rfl, trivial⟩
def fX35_target (N : Nat) (this : Nat) (h : eH) : Option (Int32 × eH) :=
  (k_ok 34 h this).bind fun _ =>
  (fX35_need N this h).bind fun q2 =>
  fX35_target_b5 N N this q2.1 q2.2
theorem pX35_target {w : eW} {d : Nat} (hd : 6 ≤ d) {N : Nat} {this : Nat} {h : eH} {q} (hf : fX35_target N this h = some q) : wm w d YX35_target [.ref this] h (e_is (e_rn c_I q)) := by
  obtain ⟨d, rfl⟩ : ∃ e, d = e + 1 := ⟨d - 1, by omega⟩
  show wp w (d + 1) YX35_target 0 [some (.ref this), none] [] h _
  unfold fX35_target at hf
  refine w_aload_n dX35_target_0 rfl rfl ?_
  obtain ⟨_, b1, hf⟩ := Option.bind_eq_some_iff.mp hf
  refine x_cnI hf (e_stV (Yc := YX35_need) (ci := 34) (av := []) (st := []) dX35_target_1 q5154 mX35_need rfl (k_ok_some b1).1 (k_ok_some b1).2) mX35_need.2.2.1 mX35_need.2.2.2.2.1 (Nat.le_of_ble_eq_true rfl) (Nat.le_of_ble_eq_true rfl) (fun q hq => pX35_need (by omega) hq) (fun q2 hf => ?_)
  refine w_istore_n dX35_target_4 rfl (by decide) (ls' := [some (.ref this), some (.int q2.1)]) rfl ?_
  exact (pX35_target_b5 hd N _ _ _ _ hf).to ⟨rfl, rfl, trivial⟩
abbrev cX35_keep : ByteArray := prog_37_method_101_code
def yX35_keep : MethodName := ⟨RX35, "keep", "(I)V"⟩
def YX35_keep : eY := (yX35_keep, cX35_keep, 2, none, [])
theorem mX35_keep : e_mv YX35_keep RX35 1 := ⟨q5932, qs401, q5933, by decide, by decide +kernel, (e_sig (by decide +kernel))⟩
theorem dX35_keep_0 : decode cX35_keep 0 = .ok (.aload_n 0, 1) := dc_42 (by decide +kernel)
theorem dX35_keep_1 : decode cX35_keep 1 = .ok (.getfield 344, 3) := dc_180 (a := 1) (b := 88) (n := 344) (by decide +kernel)
theorem dX35_keep_4 : decode cX35_keep 4 = .ok (.aload_n 0, 1) := dc_42 (by decide +kernel)
theorem dX35_keep_5 : decode cX35_keep 5 = .ok (.getfield 341, 3) := dc_180 (a := 1) (b := 85) (n := 341) (by decide +kernel)
theorem dX35_keep_8 : decode cX35_keep 8 = .ok (.iadd, 1) := dc_96 (by decide +kernel)
theorem dX35_keep_9 : decode cX35_keep 9 = .ok (.iconst 1, 1) := dc_4 (by decide +kernel)
theorem dX35_keep_10 : decode cX35_keep 10 = .ok (.iadd, 1) := dc_96 (by decide +kernel)
theorem dX35_keep_11 : decode cX35_keep 11 = .ok (.sipush 10000, 3) := dc_17 (a := 39) (b := 16) (v := 10000) (by decide +kernel)
theorem dX35_keep_14 : decode cX35_keep 14 = .ok (.if_icmp .lt 11, 3) := dc_161 (a := 0) (b := 11) (v := 11) (by decide +kernel)
theorem dX35_keep_17 : decode cX35_keep 17 = .ok (.aload_n 0, 1) := dc_42 (by decide +kernel)
theorem dX35_keep_18 : decode cX35_keep 18 = .ok (.iconst 2, 1) := dc_5 (by decide +kernel)
theorem dX35_keep_19 : decode cX35_keep 19 = .ok (.invokevirtual 428, 3) := dc_182 (a := 1) (b := 172) (n := 428) (by decide +kernel)
theorem dX35_keep_22 : decode cX35_keep 22 = .ok (.goto 33, 3) := dc_167 (a := 0) (b := 33) (v := 33) (by decide +kernel)
theorem dX35_keep_25 : decode cX35_keep 25 = .ok (.aload_n 0, 1) := dc_42 (by decide +kernel)
theorem dX35_keep_26 : decode cX35_keep 26 = .ok (.getfield 321, 3) := dc_180 (a := 1) (b := 65) (n := 321) (by decide +kernel)
theorem dX35_keep_29 : decode cX35_keep 29 = .ok (.ifCond .ne 26, 3) := dc_154 (a := 0) (b := 26) (v := 26) (by decide +kernel)
theorem dX35_keep_32 : decode cX35_keep 32 = .ok (.aload_n 0, 1) := dc_42 (by decide +kernel)
theorem dX35_keep_33 : decode cX35_keep 33 = .ok (.getfield 102, 3) := dc_180 (a := 0) (b := 102) (n := 102) (by decide +kernel)
theorem dX35_keep_36 : decode cX35_keep 36 = .ok (.aload_n 0, 1) := dc_42 (by decide +kernel)
theorem dX35_keep_37 : decode cX35_keep 37 = .ok (.getfield 344, 3) := dc_180 (a := 1) (b := 88) (n := 344) (by decide +kernel)
theorem dX35_keep_40 : decode cX35_keep 40 = .ok (.iload_n 1, 1) := dc_27 (by decide +kernel)
theorem dX35_keep_41 : decode cX35_keep 41 = .ok (.invokestatic 464, 3) := dc_184 (a := 1) (b := 208) (n := 464) (by decide +kernel)
theorem dX35_keep_44 : decode cX35_keep 44 = .ok (.iastore, 1) := dc_79 (by decide +kernel)
theorem dX35_keep_45 : decode cX35_keep 45 = .ok (.aload_n 0, 1) := dc_42 (by decide +kernel)
theorem dX35_keep_46 : decode cX35_keep 46 = .ok (.dup, 1) := dc_89 (by decide +kernel)
theorem dX35_keep_47 : decode cX35_keep 47 = .ok (.getfield 344, 3) := dc_180 (a := 1) (b := 88) (n := 344) (by decide +kernel)
theorem dX35_keep_50 : decode cX35_keep 50 = .ok (.iconst 1, 1) := dc_4 (by decide +kernel)
theorem dX35_keep_51 : decode cX35_keep 51 = .ok (.iadd, 1) := dc_96 (by decide +kernel)
theorem dX35_keep_52 : decode cX35_keep 52 = .ok (.putfield 344, 3) := dc_181 (a := 1) (b := 88) (n := 344) (by decide +kernel)
theorem dX35_keep_55 : decode cX35_keep 55 = .ok (.return_, 1) := dc_177 (by decide +kernel)
theorem GX35_341 {w : eW} {d : Nat} {Y : eY} {pc : Nat} {ls : eL} {st : List Value} {h : eH} {Q : eO → eH → Prop} {a : Nat} {x : Int32} (hf : g_I 34 h a 30 = some x) (hd : decode Y.2.1 pc = .ok (.getfield 341, 3)) (hY : Y.1.cls = RX35) (kk : wp w d Y (pc + 3) ls (.int x :: st) h Q) : wp w d Y pc ls (.ref a :: st) h Q := x_gI (ci := 34) (k := 30) hf hd rfl (by decide) (by rw [hY]; exact q4532) kk
theorem GX35_344 {w : eW} {d : Nat} {Y : eY} {pc : Nat} {ls : eL} {st : List Value} {h : eH} {Q : eO → eH → Prop} {a : Nat} {x : Int32} (hf : g_I 34 h a 35 = some x) (hd : decode Y.2.1 pc = .ok (.getfield 344, 3)) (hY : Y.1.cls = RX35) (kk : wp w d Y (pc + 3) ls (.int x :: st) h Q) : wp w d Y pc ls (.ref a :: st) h Q := x_gI (ci := 34) (k := 35) hf hd rfl (by decide) (by rw [hY]; exact q4537) kk
def fX35_keep_b55  (h : eH) : Option (Unit × eH) :=
  some ((), h)
theorem pX35_keep_b55 {w : eW} {d : Nat} (hd : 1 ≤ d + 1)  {h : eH} {q} (hf : fX35_keep_b55  h = some q) : wp w (d + 1) YX35_keep 55 [none, none] [] h (e_is (e_rn c_V q)) := by
  unfold fX35_keep_b55 at hf
  cases hf
  exact w_vret dX35_keep_55 rfl rfl
def fX35_keep (this : Nat) (p0 : Int32) (h : eH) : Option (Unit × eH) :=
  (g_I 34 h this 35).bind fun x1 =>
  (g_I 34 h this 30).bind fun x3 =>
  if ((x1 + x3) + (1 : Int32)) < (10000 : Int32) then
    (g_I 34 h this 46).bind fun x6 =>
    if ¬ x6 = 0 then
      fX35_keep_b55 h
    else
      (g_A 34 h this 36).bind fun a9 =>
      (g_I 34 h this 35).bind fun x11 =>
      (fX35_bare p0 h).bind fun q13 =>
      (q_V 100 q13.2 a9 x11 (.int q13.1)).bind fun h14 =>
      (g_I 34 h14 this 35).bind fun x16 =>
      (p_V 34 h14 this 35 (.int (x16 + (1 : Int32)))).bind fun h18 =>
      fX35_keep_b55 h18
  else
    (k_ok 34 h this).bind fun _ =>
    (fX35_fail this (2 : Int32) h).bind fun q21 =>
    fX35_keep_b55 q21.2
theorem pX35_keep {w : eW} {d : Nat} (hd : 1 ≤ d) {this : Nat} {p0 : Int32} {h : eH} {q} (hf : fX35_keep this p0 h = some q) : wm w d YX35_keep [.ref this, .int p0] h (e_is (e_rn c_V q)) := by
  obtain ⟨d, rfl⟩ : ∃ e, d = e + 1 := ⟨d - 1, by omega⟩
  show wp w (d + 1) YX35_keep 0 [some (.ref this), some (.int p0)] [] h _
  unfold fX35_keep at hf
  refine w_aload_n dX35_keep_0 rfl rfl ?_
  obtain ⟨x1, b2, hf⟩ := Option.bind_eq_some_iff.mp hf
  refine GX35_344 b2 dX35_keep_1 rfl ?_
  refine w_aload_n dX35_keep_4 rfl rfl ?_
  obtain ⟨x3, b4, hf⟩ := Option.bind_eq_some_iff.mp hf
  refine GX35_341 b4 dX35_keep_5 rfl ?_
  refine w_iadd dX35_keep_8 ?_
  refine w_iconst dX35_keep_9 (v := 1) (by decide) ?_
  refine w_iadd dX35_keep_10 ?_
  refine w_sipush dX35_keep_11 (v := 10000) (by decide) ?_
  refine w_icmp_lt 25 dX35_keep_14 (by decide) (fun c5 => ?_) (fun c5 => ?_)
  · replace hf := (if_pos (show ((x1 + x3) + (1 : Int32)) < (10000 : Int32) from c5)).symm.trans hf
    refine w_aload_n dX35_keep_25 rfl rfl ?_
    obtain ⟨x6, b7, hf⟩ := Option.bind_eq_some_iff.mp hf
    refine GX35_321 b7 dX35_keep_26 rfl ?_
    refine w_if_ne 55 dX35_keep_29 (by decide) (fun c8 => ?_) (fun c8 => ?_)
    · replace hf := (if_pos (show ¬ x6 = 0 from c8)).symm.trans hf
      exact (pX35_keep_b55 hd hf).to trivial
    · replace hf := (if_neg (show ¬ (¬ x6 = 0) from (fun z => z c8))).symm.trans hf
      refine w_aload_n dX35_keep_32 rfl rfl ?_
      obtain ⟨a9, b10, hf⟩ := Option.bind_eq_some_iff.mp hf
      refine GX35_102 b10 dX35_keep_33 rfl ?_
      refine w_aload_n dX35_keep_36 rfl rfl ?_
      obtain ⟨x11, b12, hf⟩ := Option.bind_eq_some_iff.mp hf
      refine GX35_344 b12 dX35_keep_37 rfl ?_
      refine w_iload_n dX35_keep_40 rfl rfl ?_
      refine x_cnI hf (e_stS (Yc := YX35_bare) (av := [.int p0]) (st := [.int x11, .ref a9]) dX35_keep_41 q5139 mX35_bare) mX35_bare.2.2.1 mX35_bare.2.2.2.2.1 (Nat.le_of_ble_eq_true rfl) (Nat.le_of_ble_eq_true rfl) (fun q hq => pX35_bare (by omega) hq) (fun q13 hf => ?_)
      obtain ⟨h14, b15, hf⟩ := Option.bind_eq_some_iff.mp hf
      refine x_qI b15 dX35_keep_44 ?_
      refine w_aload_n dX35_keep_45 rfl rfl ?_
      refine w_dup dX35_keep_46 rfl ?_
      obtain ⟨x16, b17, hf⟩ := Option.bind_eq_some_iff.mp hf
      refine GX35_344 b17 dX35_keep_47 rfl ?_
      refine w_iconst dX35_keep_50 (v := 1) (by decide) ?_
      refine w_iadd dX35_keep_51 ?_
      obtain ⟨h18, b19, hf⟩ := Option.bind_eq_some_iff.mp hf
      refine SX35_344 b19 dX35_keep_52 rfl ?_
      exact (pX35_keep_b55 hd hf).to trivial
  · replace hf := (if_neg (show ¬ (((x1 + x3) + (1 : Int32)) < (10000 : Int32)) from c5)).symm.trans hf
    refine w_aload_n dX35_keep_17 rfl rfl ?_
    refine w_iconst dX35_keep_18 (v := 2) (by decide) ?_
    obtain ⟨_, b20, hf⟩ := Option.bind_eq_some_iff.mp hf
    refine x_cnV hf (e_stV (Yc := YX35_fail) (ci := 34) (av := [.int (2 : Int32)]) (st := []) dX35_keep_19 q5109 mX35_fail rfl (k_ok_some b20).1 (k_ok_some b20).2) mX35_fail.2.2.1 mX35_fail.2.2.2.2.1 (Nat.le_of_ble_eq_true rfl) (Nat.le_of_ble_eq_true rfl) (fun q hq => pX35_fail (by omega) hq) (fun q21 hf => ?_)
    refine w_goto 55 dX35_keep_22 (by decide) ?_
    exact (pX35_keep_b55 hd hf).to trivial
abbrev cX35_mean : ByteArray := prog_37_method_37_code
def yX35_mean : MethodName := ⟨RX35, "mean", "(IIZ)V"⟩
def YX35_mean : eY := (yX35_mean, cX35_mean, 4, none, [])
theorem mX35_mean : e_mv YX35_mean RX35 3 := ⟨q5203, qs263, q5204, by decide, by decide +kernel, (e_sig (by decide +kernel))⟩
theorem dX35_mean_0 : decode cX35_mean 0 = .ok (.aload_n 0, 1) := dc_42 (by decide +kernel)
theorem dX35_mean_1 : decode cX35_mean 1 = .ok (.aload_n 0, 1) := dc_42 (by decide +kernel)
theorem dX35_mean_2 : decode cX35_mean 2 = .ok (.iload_n 1, 1) := dc_27 (by decide +kernel)
theorem dX35_mean_3 : decode cX35_mean 3 = .ok (.invokevirtual 471, 3) := dc_182 (a := 1) (b := 215) (n := 471) (by decide +kernel)
theorem dX35_mean_6 : decode cX35_mean 6 = .ok (.iload_n 2, 1) := dc_28 (by decide +kernel)
theorem dX35_mean_7 : decode cX35_mean 7 = .ok (.iload_n 3, 1) := dc_29 (by decide +kernel)
theorem dX35_mean_8 : decode cX35_mean 8 = .ok (.invokevirtual 477, 3) := dc_182 (a := 1) (b := 221) (n := 477) (by decide +kernel)
theorem dX35_mean_11 : decode cX35_mean 11 = .ok (.return_, 1) := dc_177 (by decide +kernel)
def fX35_mean (N : Nat) (this : Nat) (p0 : Int32) (p1 : Int32) (p2 : Int32) (h : eH) : Option (Unit × eH) :=
  (k_ok 34 h this).bind fun _ =>
  (fX35_idOf this p0 h).bind fun q2 =>
  (k_ok 34 q2.2 this).bind fun _ =>
  (fX35_setAt N this q2.1 p1 p2 q2.2).bind fun q4 =>
  some ((), q4.2)
theorem pX35_mean {w : eW} {d : Nat} (hd : 2 ≤ d) {N : Nat} {this : Nat} {p0 : Int32} {p1 : Int32} {p2 : Int32} {h : eH} {q} (hf : fX35_mean N this p0 p1 p2 h = some q) : wm w d YX35_mean [.ref this, .int p0, .int p1, .int p2] h (e_is (e_rn c_V q)) := by
  obtain ⟨d, rfl⟩ : ∃ e, d = e + 1 := ⟨d - 1, by omega⟩
  show wp w (d + 1) YX35_mean 0 [some (.ref this), some (.int p0), some (.int p1), some (.int p2)] [] h _
  unfold fX35_mean at hf
  refine w_aload_n dX35_mean_0 rfl rfl ?_
  refine w_aload_n dX35_mean_1 rfl rfl ?_
  refine w_iload_n dX35_mean_2 rfl rfl ?_
  obtain ⟨_, b1, hf⟩ := Option.bind_eq_some_iff.mp hf
  refine x_cnI hf (e_stV (Yc := YX35_idOf) (ci := 34) (av := [.int p0]) (st := [.ref this]) dX35_mean_3 q5135 mX35_idOf rfl (k_ok_some b1).1 (k_ok_some b1).2) mX35_idOf.2.2.1 mX35_idOf.2.2.2.2.1 (Nat.le_of_ble_eq_true rfl) (Nat.le_of_ble_eq_true rfl) (fun q hq => pX35_idOf (by omega) hq) (fun q2 hf => ?_)
  refine w_iload_n dX35_mean_6 rfl rfl ?_
  refine w_iload_n dX35_mean_7 rfl rfl ?_
  obtain ⟨_, b3, hf⟩ := Option.bind_eq_some_iff.mp hf
  refine x_cnV hf (e_stV (Yc := YX35_setAt) (ci := 34) (av := [.int q2.1, .int p1, .int p2]) (st := []) dX35_mean_8 q5205 mX35_setAt rfl (k_ok_some b3).1 (k_ok_some b3).2) mX35_setAt.2.2.1 mX35_setAt.2.2.2.2.1 (Nat.le_of_ble_eq_true rfl) (Nat.le_of_ble_eq_true rfl) (fun q hq => pX35_setAt (by omega) hq) (fun q4 hf => ?_)
  cases hf
  exact w_vret dX35_mean_11 rfl rfl
abbrev cX35_define : ByteArray := prog_37_method_102_code
def yX35_define : MethodName := ⟨RX35, "define", "(ZZ)V"⟩
def YX35_define : eY := (yX35_define, cX35_define, 10, none, [])
theorem mX35_define : e_mv YX35_define RX35 2 := ⟨q5924, qs399, q5925, by decide, by decide +kernel, (e_sig (by decide +kernel))⟩
theorem dX35_define_0 : decode cX35_define 0 = .ok (.aload_n 0, 1) := dc_42 (by decide +kernel)
theorem dX35_define_1 : decode cX35_define 1 = .ok (.invokevirtual 784, 3) := dc_182 (a := 3) (b := 16) (n := 784) (by decide +kernel)
theorem dX35_define_4 : decode cX35_define 4 = .ok (.istore_n 3, 1) := dc_62 (by decide +kernel)
theorem dX35_define_5 : decode cX35_define 5 = .ok (.aload_n 0, 1) := dc_42 (by decide +kernel)
theorem dX35_define_6 : decode cX35_define 6 = .ok (.getfield 321, 3) := dc_180 (a := 1) (b := 65) (n := 321) (by decide +kernel)
theorem dX35_define_9 : decode cX35_define 9 = .ok (.ifCond .ne 23, 3) := dc_154 (a := 0) (b := 23) (v := 23) (by decide +kernel)
theorem dX35_define_12 : decode cX35_define 12 = .ok (.aload_n 0, 1) := dc_42 (by decide +kernel)
theorem dX35_define_13 : decode cX35_define 13 = .ok (.getfield 344, 3) := dc_180 (a := 1) (b := 88) (n := 344) (by decide +kernel)
theorem dX35_define_16 : decode cX35_define 16 = .ok (.aload_n 0, 1) := dc_42 (by decide +kernel)
theorem dX35_define_17 : decode cX35_define 17 = .ok (.getfield 341, 3) := dc_180 (a := 1) (b := 85) (n := 341) (by decide +kernel)
theorem dX35_define_20 : decode cX35_define 20 = .ok (.iadd, 1) := dc_96 (by decide +kernel)
theorem dX35_define_21 : decode cX35_define 21 = .ok (.sipush 10000, 3) := dc_17 (a := 39) (b := 16) (v := 10000) (by decide +kernel)
theorem dX35_define_24 : decode cX35_define 24 = .ok (.if_icmp .lt 8, 3) := dc_161 (a := 0) (b := 8) (v := 8) (by decide +kernel)
theorem dX35_define_27 : decode cX35_define 27 = .ok (.aload_n 0, 1) := dc_42 (by decide +kernel)
theorem dX35_define_28 : decode cX35_define 28 = .ok (.iconst 2, 1) := dc_5 (by decide +kernel)
theorem dX35_define_29 : decode cX35_define 29 = .ok (.invokevirtual 428, 3) := dc_182 (a := 1) (b := 172) (n := 428) (by decide +kernel)
theorem dX35_define_32 : decode cX35_define 32 = .ok (.aload_n 0, 1) := dc_42 (by decide +kernel)
theorem dX35_define_33 : decode cX35_define 33 = .ok (.getfield 344, 3) := dc_180 (a := 1) (b := 88) (n := 344) (by decide +kernel)
theorem dX35_define_36 : decode cX35_define 36 = .ok (.istore 4, 2) := dc_54 (a := 4) (by decide +kernel)
theorem dX35_define_38 : decode cX35_define 38 = .ok (.iconst 0, 1) := dc_3 (by decide +kernel)
theorem dX35_define_39 : decode cX35_define 39 = .ok (.istore 5, 2) := dc_54 (a := 5) (by decide +kernel)
theorem dX35_define_41 : decode cX35_define 41 = .ok (.aload_n 0, 1) := dc_42 (by decide +kernel)
theorem dX35_define_42 : decode cX35_define 42 = .ok (.invokevirtual 506, 3) := dc_182 (a := 1) (b := 250) (n := 506) (by decide +kernel)
theorem dX35_define_45 : decode cX35_define 45 = .ok (.istore 6, 2) := dc_54 (a := 6) (by decide +kernel)
theorem dX35_define_47 : decode cX35_define 47 = .ok (.aload_n 0, 1) := dc_42 (by decide +kernel)
theorem dX35_define_48 : decode cX35_define 48 = .ok (.getfield 321, 3) := dc_180 (a := 1) (b := 65) (n := 321) (by decide +kernel)
theorem dX35_define_51 : decode cX35_define 51 = .ok (.ifCond .ne 111, 3) := dc_154 (a := 0) (b := 111) (v := 111) (by decide +kernel)
theorem dX35_define_54 : decode cX35_define 54 = .ok (.iload 6, 2) := dc_21 (a := 6) (by decide +kernel)
theorem dX35_define_56 : decode cX35_define 56 = .ok (.iconst 1, 1) := dc_4 (by decide +kernel)
theorem dX35_define_57 : decode cX35_define 57 = .ok (.invokestatic 493, 3) := dc_184 (a := 1) (b := 237) (n := 493) (by decide +kernel)
theorem dX35_define_60 : decode cX35_define 60 = .ok (.ifCond .ne 102, 3) := dc_154 (a := 0) (b := 102) (v := 102) (by decide +kernel)
theorem dX35_define_63 : decode cX35_define 63 = .ok (.iload 6, 2) := dc_21 (a := 6) (by decide +kernel)
theorem dX35_define_65 : decode cX35_define 65 = .ok (.iconst 2, 1) := dc_5 (by decide +kernel)
theorem dX35_define_66 : decode cX35_define 66 = .ok (.invokestatic 493, 3) := dc_184 (a := 1) (b := 237) (n := 493) (by decide +kernel)
theorem dX35_define_69 : decode cX35_define 69 = .ok (.ifCond .eq 11, 3) := dc_153 (a := 0) (b := 11) (v := 11) (by decide +kernel)
theorem dX35_define_72 : decode cX35_define 72 = .ok (.aload_n 0, 1) := dc_42 (by decide +kernel)
theorem dX35_define_73 : decode cX35_define 73 = .ok (.iconst 5, 1) := dc_8 (by decide +kernel)
theorem dX35_define_74 : decode cX35_define 74 = .ok (.invokevirtual 428, 3) := dc_182 (a := 1) (b := 172) (n := 428) (by decide +kernel)
theorem dX35_define_77 : decode cX35_define 77 = .ok (.goto 76, 3) := dc_167 (a := 0) (b := 76) (v := 76) (by decide +kernel)
theorem dX35_define_80 : decode cX35_define 80 = .ok (.iload 6, 2) := dc_21 (a := 6) (by decide +kernel)
theorem dX35_define_82 : decode cX35_define 82 = .ok (.bipush 6, 2) := dc_16 (a := 6) (v := 6) (by decide +kernel)
theorem dX35_define_84 : decode cX35_define 84 = .ok (.invokestatic 493, 3) := dc_184 (a := 1) (b := 237) (n := 493) (by decide +kernel)
theorem dX35_define_87 : decode cX35_define 87 = .ok (.ifCond .eq 60, 3) := dc_153 (a := 0) (b := 60) (v := 60) (by decide +kernel)
theorem dX35_define_90 : decode cX35_define 90 = .ok (.aload_n 0, 1) := dc_42 (by decide +kernel)
theorem dX35_define_91 : decode cX35_define 91 = .ok (.invokevirtual 506, 3) := dc_182 (a := 1) (b := 250) (n := 506) (by decide +kernel)
theorem dX35_define_94 : decode cX35_define 94 = .ok (.istore 7, 2) := dc_54 (a := 7) (by decide +kernel)
theorem dX35_define_96 : decode cX35_define 96 = .ok (.iinc 5 1, 3) := dc_132 (a := 5) (b := 1) (v := 1) (by decide +kernel)
theorem dX35_define_99 : decode cX35_define 99 = .ok (.aload_n 0, 1) := dc_42 (by decide +kernel)
theorem dX35_define_100 : decode cX35_define 100 = .ok (.getfield 321, 3) := dc_180 (a := 1) (b := 65) (n := 321) (by decide +kernel)
theorem dX35_define_103 : decode cX35_define 103 = .ok (.ifCond .ne 31, 3) := dc_154 (a := 0) (b := 31) (v := 31) (by decide +kernel)
theorem dX35_define_106 : decode cX35_define 106 = .ok (.iload 7, 2) := dc_21 (a := 7) (by decide +kernel)
theorem dX35_define_108 : decode cX35_define 108 = .ok (.invokestatic 643, 3) := dc_184 (a := 2) (b := 131) (n := 643) (by decide +kernel)
theorem dX35_define_111 : decode cX35_define 111 = .ok (.ifCond .eq 17, 3) := dc_153 (a := 0) (b := 17) (v := 17) (by decide +kernel)
theorem dX35_define_114 : decode cX35_define 114 = .ok (.iload 7, 2) := dc_21 (a := 7) (by decide +kernel)
theorem dX35_define_116 : decode cX35_define 116 = .ok (.sipush 256, 3) := dc_17 (a := 1) (b := 0) (v := 256) (by decide +kernel)
theorem dX35_define_119 : decode cX35_define 119 = .ok (.irem, 1) := dc_112 (by decide +kernel)
theorem dX35_define_120 : decode cX35_define 120 = .ok (.bipush 48, 2) := dc_16 (a := 48) (v := 48) (by decide +kernel)
theorem dX35_define_122 : decode cX35_define 122 = .ok (.iload 5, 2) := dc_21 (a := 5) (by decide +kernel)
theorem dX35_define_124 : decode cX35_define 124 = .ok (.iadd, 1) := dc_96 (by decide +kernel)
theorem dX35_define_125 : decode cX35_define 125 = .ok (.if_icmp .eq 9, 3) := dc_159 (a := 0) (b := 9) (v := 9) (by decide +kernel)
theorem dX35_define_128 : decode cX35_define 128 = .ok (.aload_n 0, 1) := dc_42 (by decide +kernel)
theorem dX35_define_129 : decode cX35_define 129 = .ok (.bipush 12, 2) := dc_16 (a := 12) (v := 12) (by decide +kernel)
theorem dX35_define_131 : decode cX35_define 131 = .ok (.invokevirtual 428, 3) := dc_182 (a := 1) (b := 172) (n := 428) (by decide +kernel)
theorem dX35_define_134 : decode cX35_define 134 = .ok (.aload_n 0, 1) := dc_42 (by decide +kernel)
theorem dX35_define_135 : decode cX35_define 135 = .ok (.ldc_w 402, 3) := dc_19 (a := 1) (b := 146) (n := 402) (by decide +kernel)
theorem dX35_define_138 : decode cX35_define 138 = .ok (.iload 5, 2) := dc_21 (a := 5) (by decide +kernel)
theorem dX35_define_140 : decode cX35_define 140 = .ok (.iadd, 1) := dc_96 (by decide +kernel)
theorem dX35_define_141 : decode cX35_define 141 = .ok (.invokevirtual 787, 3) := dc_182 (a := 3) (b := 19) (n := 787) (by decide +kernel)
theorem dX35_define_144 : decode cX35_define 144 = .ok (.goto 9, 3) := dc_167 (a := 0) (b := 9) (v := 9) (by decide +kernel)
theorem dX35_define_147 : decode cX35_define 147 = .ok (.aload_n 0, 1) := dc_42 (by decide +kernel)
theorem dX35_define_148 : decode cX35_define 148 = .ok (.iload 6, 2) := dc_21 (a := 6) (by decide +kernel)
theorem dX35_define_150 : decode cX35_define 150 = .ok (.invokevirtual 787, 3) := dc_182 (a := 3) (b := 19) (n := 787) (by decide +kernel)
theorem dX35_define_153 : decode cX35_define 153 = .ok (.aload_n 0, 1) := dc_42 (by decide +kernel)
theorem dX35_define_154 : decode cX35_define 154 = .ok (.invokevirtual 506, 3) := dc_182 (a := 1) (b := 250) (n := 506) (by decide +kernel)
theorem dX35_define_157 : decode cX35_define 157 = .ok (.istore 6, 2) := dc_54 (a := 6) (by decide +kernel)
theorem dX35_define_159 : decode cX35_define 159 = .ok (.goto (-112), 3) := dc_167 (a := 255) (b := 144) (v := -112) (by decide +kernel)
theorem dX35_define_162 : decode cX35_define 162 = .ok (.aload_n 0, 1) := dc_42 (by decide +kernel)
theorem dX35_define_163 : decode cX35_define 163 = .ok (.getfield 344, 3) := dc_180 (a := 1) (b := 88) (n := 344) (by decide +kernel)
theorem dX35_define_166 : decode cX35_define 166 = .ok (.istore 7, 2) := dc_54 (a := 7) (by decide +kernel)
theorem dX35_define_168 : decode cX35_define 168 = .ok (.iconst 1, 1) := dc_4 (by decide +kernel)
theorem dX35_define_169 : decode cX35_define 169 = .ok (.istore 8, 2) := dc_54 (a := 8) (by decide +kernel)
theorem dX35_define_171 : decode cX35_define 171 = .ok (.aload_n 0, 1) := dc_42 (by decide +kernel)
theorem dX35_define_172 : decode cX35_define 172 = .ok (.getfield 321, 3) := dc_180 (a := 1) (b := 65) (n := 321) (by decide +kernel)
theorem dX35_define_175 : decode cX35_define 175 = .ok (.ifCond .ne 186, 3) := dc_154 (a := 0) (b := 186) (v := 186) (by decide +kernel)
theorem dX35_define_178 : decode cX35_define 178 = .ok (.iload 8, 2) := dc_21 (a := 8) (by decide +kernel)
theorem dX35_define_180 : decode cX35_define 180 = .ok (.ifCond .le 181, 3) := dc_158 (a := 0) (b := 181) (v := 181) (by decide +kernel)
theorem dX35_define_183 : decode cX35_define 183 = .ok (.iload_n 1, 1) := dc_27 (by decide +kernel)
theorem dX35_define_184 : decode cX35_define 184 = .ok (.ifCond .eq 10, 3) := dc_153 (a := 0) (b := 10) (v := 10) (by decide +kernel)
theorem dX35_define_187 : decode cX35_define 187 = .ok (.aload_n 0, 1) := dc_42 (by decide +kernel)
theorem dX35_define_188 : decode cX35_define 188 = .ok (.invokevirtual 490, 3) := dc_182 (a := 1) (b := 234) (n := 490) (by decide +kernel)
theorem dX35_define_191 : decode cX35_define 191 = .ok (.goto 7, 3) := dc_167 (a := 0) (b := 7) (v := 7) (by decide +kernel)
theorem dX35_define_194 : decode cX35_define 194 = .ok (.aload_n 0, 1) := dc_42 (by decide +kernel)
theorem dX35_define_195 : decode cX35_define 195 = .ok (.invokevirtual 506, 3) := dc_182 (a := 1) (b := 250) (n := 506) (by decide +kernel)
theorem dX35_define_198 : decode cX35_define 198 = .ok (.istore 6, 2) := dc_54 (a := 6) (by decide +kernel)
theorem dX35_define_200 : decode cX35_define 200 = .ok (.aload_n 0, 1) := dc_42 (by decide +kernel)
theorem dX35_define_201 : decode cX35_define 201 = .ok (.getfield 321, 3) := dc_180 (a := 1) (b := 65) (n := 321) (by decide +kernel)
theorem dX35_define_204 : decode cX35_define 204 = .ok (.ifCond .le 4, 3) := dc_158 (a := 0) (b := 4) (v := 4) (by decide +kernel)
theorem dX35_define_207 : decode cX35_define 207 = .ok (.return_, 1) := dc_177 (by decide +kernel)
theorem dX35_define_208 : decode cX35_define 208 = .ok (.iload 6, 2) := dc_21 (a := 6) (by decide +kernel)
theorem dX35_define_210 : decode cX35_define 210 = .ok (.iconst 1, 1) := dc_4 (by decide +kernel)
theorem dX35_define_211 : decode cX35_define 211 = .ok (.invokestatic 493, 3) := dc_184 (a := 1) (b := 237) (n := 493) (by decide +kernel)
theorem dX35_define_214 : decode cX35_define 214 = .ok (.ifCond .eq 10, 3) := dc_153 (a := 0) (b := 10) (v := 10) (by decide +kernel)
theorem dX35_define_217 : decode cX35_define 217 = .ok (.iload 8, 2) := dc_21 (a := 8) (by decide +kernel)
theorem dX35_define_219 : decode cX35_define 219 = .ok (.iconst 1, 1) := dc_4 (by decide +kernel)
theorem dX35_define_220 : decode cX35_define 220 = .ok (.iadd, 1) := dc_96 (by decide +kernel)
theorem dX35_define_221 : decode cX35_define 221 = .ok (.goto 21, 3) := dc_167 (a := 0) (b := 21) (v := 21) (by decide +kernel)
theorem dX35_define_224 : decode cX35_define 224 = .ok (.iload 6, 2) := dc_21 (a := 6) (by decide +kernel)
theorem dX35_define_226 : decode cX35_define 226 = .ok (.iconst 2, 1) := dc_5 (by decide +kernel)
theorem dX35_define_227 : decode cX35_define 227 = .ok (.invokestatic 493, 3) := dc_184 (a := 1) (b := 237) (n := 493) (by decide +kernel)
theorem dX35_define_230 : decode cX35_define 230 = .ok (.ifCond .eq 10, 3) := dc_153 (a := 0) (b := 10) (v := 10) (by decide +kernel)
theorem dX35_define_233 : decode cX35_define 233 = .ok (.iload 8, 2) := dc_21 (a := 8) (by decide +kernel)
theorem dX35_define_235 : decode cX35_define 235 = .ok (.iconst 1, 1) := dc_4 (by decide +kernel)
theorem dX35_define_236 : decode cX35_define 236 = .ok (.isub, 1) := dc_100 (by decide +kernel)
theorem dX35_define_237 : decode cX35_define 237 = .ok (.goto 5, 3) := dc_167 (a := 0) (b := 5) (v := 5) (by decide +kernel)
theorem dX35_define_240 : decode cX35_define 240 = .ok (.iload 8, 2) := dc_21 (a := 8) (by decide +kernel)
theorem dX35_define_242 : decode cX35_define 242 = .ok (.istore 8, 2) := dc_54 (a := 8) (by decide +kernel)
theorem dX35_define_244 : decode cX35_define 244 = .ok (.iload 6, 2) := dc_21 (a := 6) (by decide +kernel)
theorem dX35_define_246 : decode cX35_define 246 = .ok (.bipush 6, 2) := dc_16 (a := 6) (v := 6) (by decide +kernel)
theorem dX35_define_248 : decode cX35_define 248 = .ok (.invokestatic 493, 3) := dc_184 (a := 1) (b := 237) (n := 493) (by decide +kernel)
theorem dX35_define_251 : decode cX35_define 251 = .ok (.ifCond .eq 96, 3) := dc_153 (a := 0) (b := 96) (v := 96) (by decide +kernel)
theorem dX35_define_254 : decode cX35_define 254 = .ok (.iload_n 1, 1) := dc_27 (by decide +kernel)
theorem dX35_define_255 : decode cX35_define 255 = .ok (.ifCond .eq 10, 3) := dc_153 (a := 0) (b := 10) (v := 10) (by decide +kernel)
theorem dX35_define_258 : decode cX35_define 258 = .ok (.aload_n 0, 1) := dc_42 (by decide +kernel)
theorem dX35_define_259 : decode cX35_define 259 = .ok (.invokevirtual 490, 3) := dc_182 (a := 1) (b := 234) (n := 490) (by decide +kernel)
theorem dX35_define_262 : decode cX35_define 262 = .ok (.goto 7, 3) := dc_167 (a := 0) (b := 7) (v := 7) (by decide +kernel)
theorem dX35_define_265 : decode cX35_define 265 = .ok (.aload_n 0, 1) := dc_42 (by decide +kernel)
theorem dX35_define_266 : decode cX35_define 266 = .ok (.invokevirtual 506, 3) := dc_182 (a := 1) (b := 250) (n := 506) (by decide +kernel)
theorem dX35_define_269 : decode cX35_define 269 = .ok (.istore 6, 2) := dc_54 (a := 6) (by decide +kernel)
theorem dX35_define_271 : decode cX35_define 271 = .ok (.iload 6, 2) := dc_21 (a := 6) (by decide +kernel)
theorem dX35_define_273 : decode cX35_define 273 = .ok (.invokestatic 643, 3) := dc_184 (a := 2) (b := 131) (n := 643) (by decide +kernel)
theorem dX35_define_276 : decode cX35_define 276 = .ok (.ifCond .eq 15, 3) := dc_153 (a := 0) (b := 15) (v := 15) (by decide +kernel)
theorem dX35_define_279 : decode cX35_define 279 = .ok (.iload 6, 2) := dc_21 (a := 6) (by decide +kernel)
theorem dX35_define_281 : decode cX35_define 281 = .ok (.sipush 256, 3) := dc_17 (a := 1) (b := 0) (v := 256) (by decide +kernel)
theorem dX35_define_284 : decode cX35_define 284 = .ok (.irem, 1) := dc_112 (by decide +kernel)
theorem dX35_define_285 : decode cX35_define 285 = .ok (.bipush 48, 2) := dc_16 (a := 48) (v := 48) (by decide +kernel)
theorem dX35_define_287 : decode cX35_define 287 = .ok (.isub, 1) := dc_100 (by decide +kernel)
theorem dX35_define_288 : decode cX35_define 288 = .ok (.goto 4, 3) := dc_167 (a := 0) (b := 4) (v := 4) (by decide +kernel)
theorem dX35_define_291 : decode cX35_define 291 = .ok (.iconst 0, 1) := dc_3 (by decide +kernel)
theorem dX35_define_292 : decode cX35_define 292 = .ok (.istore 9, 2) := dc_54 (a := 9) (by decide +kernel)
theorem dX35_define_294 : decode cX35_define 294 = .ok (.aload_n 0, 1) := dc_42 (by decide +kernel)
theorem dX35_define_295 : decode cX35_define 295 = .ok (.getfield 321, 3) := dc_180 (a := 1) (b := 65) (n := 321) (by decide +kernel)
theorem dX35_define_298 : decode cX35_define 298 = .ok (.ifCond .ne 31, 3) := dc_154 (a := 0) (b := 31) (v := 31) (by decide +kernel)
theorem dX35_define_301 : decode cX35_define 301 = .ok (.iload 6, 2) := dc_21 (a := 6) (by decide +kernel)
theorem dX35_define_303 : decode cX35_define 303 = .ok (.bipush 6, 2) := dc_16 (a := 6) (v := 6) (by decide +kernel)
theorem dX35_define_305 : decode cX35_define 305 = .ok (.invokestatic 493, 3) := dc_184 (a := 1) (b := 237) (n := 493) (by decide +kernel)
theorem dX35_define_308 : decode cX35_define 308 = .ok (.ifCond .ne 21, 3) := dc_154 (a := 0) (b := 21) (v := 21) (by decide +kernel)
theorem dX35_define_311 : decode cX35_define 311 = .ok (.iload 9, 2) := dc_21 (a := 9) (by decide +kernel)
theorem dX35_define_313 : decode cX35_define 313 = .ok (.ifCond .eq 10, 3) := dc_153 (a := 0) (b := 10) (v := 10) (by decide +kernel)
theorem dX35_define_316 : decode cX35_define 316 = .ok (.iload 9, 2) := dc_21 (a := 9) (by decide +kernel)
theorem dX35_define_318 : decode cX35_define 318 = .ok (.iload 5, 2) := dc_21 (a := 5) (by decide +kernel)
theorem dX35_define_320 : decode cX35_define 320 = .ok (.if_icmp .le 9, 3) := dc_164 (a := 0) (b := 9) (v := 9) (by decide +kernel)
theorem dX35_define_323 : decode cX35_define 323 = .ok (.aload_n 0, 1) := dc_42 (by decide +kernel)
theorem dX35_define_324 : decode cX35_define 324 = .ok (.bipush 12, 2) := dc_16 (a := 12) (v := 12) (by decide +kernel)
theorem dX35_define_326 : decode cX35_define 326 = .ok (.invokevirtual 428, 3) := dc_182 (a := 1) (b := 172) (n := 428) (by decide +kernel)
theorem dX35_define_329 : decode cX35_define 329 = .ok (.iload 9, 2) := dc_21 (a := 9) (by decide +kernel)
theorem dX35_define_331 : decode cX35_define 331 = .ok (.ifCond .le 12, 3) := dc_158 (a := 0) (b := 12) (v := 12) (by decide +kernel)
theorem dX35_define_334 : decode cX35_define 334 = .ok (.ldc_w 402, 3) := dc_19 (a := 1) (b := 146) (n := 402) (by decide +kernel)
theorem dX35_define_337 : decode cX35_define 337 = .ok (.iload 9, 2) := dc_21 (a := 9) (by decide +kernel)
theorem dX35_define_339 : decode cX35_define 339 = .ok (.iadd, 1) := dc_96 (by decide +kernel)
theorem dX35_define_340 : decode cX35_define 340 = .ok (.goto 5, 3) := dc_167 (a := 0) (b := 5) (v := 5) (by decide +kernel)
theorem dX35_define_343 : decode cX35_define 343 = .ok (.iload 6, 2) := dc_21 (a := 6) (by decide +kernel)
theorem dX35_define_345 : decode cX35_define 345 = .ok (.istore 6, 2) := dc_54 (a := 6) (by decide +kernel)
theorem dX35_define_347 : decode cX35_define 347 = .ok (.iload 8, 2) := dc_21 (a := 8) (by decide +kernel)
theorem dX35_define_349 : decode cX35_define 349 = .ok (.ifCond .le (-178), 3) := dc_158 (a := 255) (b := 78) (v := -178) (by decide +kernel)
theorem dX35_define_352 : decode cX35_define 352 = .ok (.aload_n 0, 1) := dc_42 (by decide +kernel)
theorem dX35_define_353 : decode cX35_define 353 = .ok (.iload 6, 2) := dc_21 (a := 6) (by decide +kernel)
theorem dX35_define_355 : decode cX35_define 355 = .ok (.invokevirtual 787, 3) := dc_182 (a := 3) (b := 19) (n := 787) (by decide +kernel)
theorem dX35_define_358 : decode cX35_define 358 = .ok (.goto (-187), 3) := dc_167 (a := 255) (b := 69) (v := -187) (by decide +kernel)
theorem dX35_define_361 : decode cX35_define 361 = .ok (.aload_n 0, 1) := dc_42 (by decide +kernel)
theorem dX35_define_362 : decode cX35_define 362 = .ok (.getfield 321, 3) := dc_180 (a := 1) (b := 65) (n := 321) (by decide +kernel)
theorem dX35_define_365 : decode cX35_define 365 = .ok (.ifCond .ne 72, 3) := dc_154 (a := 0) (b := 72) (v := 72) (by decide +kernel)
theorem dX35_define_368 : decode cX35_define 368 = .ok (.aload_n 0, 1) := dc_42 (by decide +kernel)
theorem dX35_define_369 : decode cX35_define 369 = .ok (.getfield 90, 3) := dc_180 (a := 0) (b := 90) (n := 90) (by decide +kernel)
theorem dX35_define_372 : decode cX35_define 372 = .ok (.aload_n 0, 1) := dc_42 (by decide +kernel)
theorem dX35_define_373 : decode cX35_define 373 = .ok (.getfield 341, 3) := dc_180 (a := 1) (b := 85) (n := 341) (by decide +kernel)
theorem dX35_define_376 : decode cX35_define 376 = .ok (.iload 5, 2) := dc_21 (a := 5) (by decide +kernel)
theorem dX35_define_378 : decode cX35_define 378 = .ok (.iastore, 1) := dc_79 (by decide +kernel)
theorem dX35_define_379 : decode cX35_define 379 = .ok (.aload_n 0, 1) := dc_42 (by decide +kernel)
theorem dX35_define_380 : decode cX35_define 380 = .ok (.getfield 93, 3) := dc_180 (a := 0) (b := 93) (n := 93) (by decide +kernel)
theorem dX35_define_383 : decode cX35_define 383 = .ok (.aload_n 0, 1) := dc_42 (by decide +kernel)
theorem dX35_define_384 : decode cX35_define 384 = .ok (.getfield 341, 3) := dc_180 (a := 1) (b := 85) (n := 341) (by decide +kernel)
theorem dX35_define_387 : decode cX35_define 387 = .ok (.iload 4, 2) := dc_21 (a := 4) (by decide +kernel)
theorem dX35_define_389 : decode cX35_define 389 = .ok (.iastore, 1) := dc_79 (by decide +kernel)
theorem dX35_define_390 : decode cX35_define 390 = .ok (.aload_n 0, 1) := dc_42 (by decide +kernel)
theorem dX35_define_391 : decode cX35_define 391 = .ok (.getfield 96, 3) := dc_180 (a := 0) (b := 96) (n := 96) (by decide +kernel)
theorem dX35_define_394 : decode cX35_define 394 = .ok (.aload_n 0, 1) := dc_42 (by decide +kernel)
theorem dX35_define_395 : decode cX35_define 395 = .ok (.getfield 341, 3) := dc_180 (a := 1) (b := 85) (n := 341) (by decide +kernel)
theorem dX35_define_398 : decode cX35_define 398 = .ok (.iload 7, 2) := dc_21 (a := 7) (by decide +kernel)
theorem dX35_define_400 : decode cX35_define 400 = .ok (.iastore, 1) := dc_79 (by decide +kernel)
theorem dX35_define_401 : decode cX35_define 401 = .ok (.aload_n 0, 1) := dc_42 (by decide +kernel)
theorem dX35_define_402 : decode cX35_define 402 = .ok (.getfield 99, 3) := dc_180 (a := 0) (b := 99) (n := 99) (by decide +kernel)
theorem dX35_define_405 : decode cX35_define 405 = .ok (.aload_n 0, 1) := dc_42 (by decide +kernel)
theorem dX35_define_406 : decode cX35_define 406 = .ok (.getfield 341, 3) := dc_180 (a := 1) (b := 85) (n := 341) (by decide +kernel)
theorem dX35_define_409 : decode cX35_define 409 = .ok (.aload_n 0, 1) := dc_42 (by decide +kernel)
theorem dX35_define_410 : decode cX35_define 410 = .ok (.getfield 344, 3) := dc_180 (a := 1) (b := 88) (n := 344) (by decide +kernel)
theorem dX35_define_413 : decode cX35_define 413 = .ok (.iastore, 1) := dc_79 (by decide +kernel)
theorem dX35_define_414 : decode cX35_define 414 = .ok (.aload_n 0, 1) := dc_42 (by decide +kernel)
theorem dX35_define_415 : decode cX35_define 415 = .ok (.iload_n 3, 1) := dc_29 (by decide +kernel)
theorem dX35_define_416 : decode cX35_define 416 = .ok (.ldc 14, 2) := dc_18 (a := 14) (by decide +kernel)
theorem dX35_define_418 : decode cX35_define 418 = .ok (.aload_n 0, 1) := dc_42 (by decide +kernel)
theorem dX35_define_419 : decode cX35_define 419 = .ok (.getfield 341, 3) := dc_180 (a := 1) (b := 85) (n := 341) (by decide +kernel)
theorem dX35_define_422 : decode cX35_define 422 = .ok (.iadd, 1) := dc_96 (by decide +kernel)
theorem dX35_define_423 : decode cX35_define 423 = .ok (.iload_n 2, 1) := dc_28 (by decide +kernel)
theorem dX35_define_424 : decode cX35_define 424 = .ok (.invokevirtual 557, 3) := dc_182 (a := 2) (b := 45) (n := 557) (by decide +kernel)
theorem dX35_define_427 : decode cX35_define 427 = .ok (.aload_n 0, 1) := dc_42 (by decide +kernel)
theorem dX35_define_428 : decode cX35_define 428 = .ok (.dup, 1) := dc_89 (by decide +kernel)
theorem dX35_define_429 : decode cX35_define 429 = .ok (.getfield 341, 3) := dc_180 (a := 1) (b := 85) (n := 341) (by decide +kernel)
theorem dX35_define_432 : decode cX35_define 432 = .ok (.iconst 1, 1) := dc_4 (by decide +kernel)
theorem dX35_define_433 : decode cX35_define 433 = .ok (.iadd, 1) := dc_96 (by decide +kernel)
theorem dX35_define_434 : decode cX35_define 434 = .ok (.putfield 341, 3) := dc_181 (a := 1) (b := 85) (n := 341) (by decide +kernel)
theorem dX35_define_437 : decode cX35_define 437 = .ok (.return_, 1) := dc_177 (by decide +kernel)
def fX35_define_b153 (N : Nat) (sE : Nat → Int32 → eH → Option (Unit × eH)) (k47 : Nat → Int32 → Int32 → Int32 → Int32 → Int32 → Int32 → eH → Option (Unit × eH)) (l0 : Nat) (l1 : Int32) (l2 : Int32) (l3 : Int32) (l4 : Int32) (l5 : Int32) (h : eH) : Option (Unit × eH) :=
  (k_ok 34 h l0).bind fun _ =>
  (fX35_need N l0 h).bind fun q2 =>
  k47 l0 l1 l2 l3 l4 l5 q2.1 q2.2
theorem pX35_define_b153 {w : eW} {d : Nat} {dr : Nat} (hd : dr + 7 ≤ d + 1) (hdr : 12 ≤ dr) {N : Nat} {sE : Nat → Int32 → eH → Option (Unit × eH)} (hsE : ∀ a t0 h q, sE a t0 h = some q → wm w dr YX35_expand [.ref a, .int t0] h (e_is (e_rn c_V q))) {k47 : Nat → Int32 → Int32 → Int32 → Int32 → Int32 → Int32 → eH → Option (Unit × eH)} (hk47 : ∀ l0 l1 l2 l3 l4 l5 l6 h q, k47 l0 l1 l2 l3 l4 l5 l6 h = some q → wp w (d + 1) YX35_define 47 [some (.ref l0), some (.int l1), some (.int l2), some (.int l3), some (.int l4), some (.int l5), some (.int l6), none, none, none] [] h (e_is (e_rn c_V q))) {l0 : Nat} {l1 : Int32} {l2 : Int32} {l3 : Int32} {l4 : Int32} {l5 : Int32} {h : eH} {q} (hf : fX35_define_b153 N sE k47 l0 l1 l2 l3 l4 l5 h = some q) : wp w (d + 1) YX35_define 153 [some (.ref l0), some (.int l1), some (.int l2), some (.int l3), some (.int l4), some (.int l5), none, none, none, none] [] h (e_is (e_rn c_V q)) := by
  unfold fX35_define_b153 at hf
  refine w_aload_n dX35_define_153 rfl rfl ?_
  obtain ⟨_, b1, hf⟩ := Option.bind_eq_some_iff.mp hf
  refine x_cnI hf (e_stV (Yc := YX35_need) (ci := 34) (av := []) (st := []) dX35_define_154 q5154 mX35_need rfl (k_ok_some b1).1 (k_ok_some b1).2) mX35_need.2.2.1 mX35_need.2.2.2.2.1 (Nat.le_of_ble_eq_true rfl) (Nat.le_of_ble_eq_true rfl) (fun q hq => pX35_need (by omega) hq) (fun q2 hf => ?_)
  refine w_istore dX35_define_157 (by decide) (ls' := [some (.ref l0), some (.int l1), some (.int l2), some (.int l3), some (.int l4), some (.int l5), some (.int q2.1), none, none, none]) rfl ?_
  refine w_goto 47 dX35_define_159 (by decide) ?_
  exact (hk47 _ _ _ _ _ _ _ _ _ hf).to ⟨rfl, rfl, rfl, rfl, rfl, rfl, rfl, trivial⟩
def fX35_define_b134 (N : Nat) (sE : Nat → Int32 → eH → Option (Unit × eH)) (k47 : Nat → Int32 → Int32 → Int32 → Int32 → Int32 → Int32 → eH → Option (Unit × eH)) (l0 : Nat) (l1 : Int32) (l2 : Int32) (l3 : Int32) (l4 : Int32) (l5 : Int32) (h : eH) : Option (Unit × eH) :=
  (k_ok 34 h l0).bind fun _ =>
  (fX35_keep l0 ((262144 : Int32) + l5) h).bind fun q2 =>
  fX35_define_b153 N sE k47 l0 l1 l2 l3 l4 l5 q2.2
theorem pX35_define_b134 {w : eW} {d : Nat} {dr : Nat} (hd : dr + 7 ≤ d + 1) (hdr : 12 ≤ dr) {N : Nat} {sE : Nat → Int32 → eH → Option (Unit × eH)} (hsE : ∀ a t0 h q, sE a t0 h = some q → wm w dr YX35_expand [.ref a, .int t0] h (e_is (e_rn c_V q))) {k47 : Nat → Int32 → Int32 → Int32 → Int32 → Int32 → Int32 → eH → Option (Unit × eH)} (hk47 : ∀ l0 l1 l2 l3 l4 l5 l6 h q, k47 l0 l1 l2 l3 l4 l5 l6 h = some q → wp w (d + 1) YX35_define 47 [some (.ref l0), some (.int l1), some (.int l2), some (.int l3), some (.int l4), some (.int l5), some (.int l6), none, none, none] [] h (e_is (e_rn c_V q))) {l0 : Nat} {l1 : Int32} {l2 : Int32} {l3 : Int32} {l4 : Int32} {l5 : Int32} {h : eH} {q} (hf : fX35_define_b134 N sE k47 l0 l1 l2 l3 l4 l5 h = some q) : wp w (d + 1) YX35_define 134 [some (.ref l0), some (.int l1), some (.int l2), some (.int l3), some (.int l4), some (.int l5), none, none, none, none] [] h (e_is (e_rn c_V q)) := by
  unfold fX35_define_b134 at hf
  refine w_aload_n dX35_define_134 rfl rfl ?_
  refine w_ldc_w dX35_define_135 q4487 ?_
  refine w_iload dX35_define_138 rfl ?_
  refine w_iadd dX35_define_140 ?_
  obtain ⟨_, b1, hf⟩ := Option.bind_eq_some_iff.mp hf
  refine x_cnV hf (e_stV (Yc := YX35_keep) (ci := 34) (av := [.int ((262144 : Int32) + l5)]) (st := []) dX35_define_141 q5930 mX35_keep rfl (k_ok_some b1).1 (k_ok_some b1).2) mX35_keep.2.2.1 mX35_keep.2.2.2.2.1 (Nat.le_of_ble_eq_true rfl) (Nat.le_of_ble_eq_true rfl) (fun q hq => pX35_keep (by omega) hq) (fun q2 hf => ?_)
  refine w_goto 153 dX35_define_144 (by decide) ?_
  exact (pX35_define_b153 hd hdr hsE hk47 hf).to ⟨rfl, rfl, rfl, rfl, rfl, rfl, trivial⟩
def fX35_define_b128 (N : Nat) (sE : Nat → Int32 → eH → Option (Unit × eH)) (k47 : Nat → Int32 → Int32 → Int32 → Int32 → Int32 → Int32 → eH → Option (Unit × eH)) (l0 : Nat) (l1 : Int32) (l2 : Int32) (l3 : Int32) (l4 : Int32) (l5 : Int32) (h : eH) : Option (Unit × eH) :=
  (k_ok 34 h l0).bind fun _ =>
  (fX35_fail l0 (12 : Int32) h).bind fun q2 =>
  fX35_define_b134 N sE k47 l0 l1 l2 l3 l4 l5 q2.2
theorem pX35_define_b128 {w : eW} {d : Nat} {dr : Nat} (hd : dr + 7 ≤ d + 1) (hdr : 12 ≤ dr) {N : Nat} {sE : Nat → Int32 → eH → Option (Unit × eH)} (hsE : ∀ a t0 h q, sE a t0 h = some q → wm w dr YX35_expand [.ref a, .int t0] h (e_is (e_rn c_V q))) {k47 : Nat → Int32 → Int32 → Int32 → Int32 → Int32 → Int32 → eH → Option (Unit × eH)} (hk47 : ∀ l0 l1 l2 l3 l4 l5 l6 h q, k47 l0 l1 l2 l3 l4 l5 l6 h = some q → wp w (d + 1) YX35_define 47 [some (.ref l0), some (.int l1), some (.int l2), some (.int l3), some (.int l4), some (.int l5), some (.int l6), none, none, none] [] h (e_is (e_rn c_V q))) {l0 : Nat} {l1 : Int32} {l2 : Int32} {l3 : Int32} {l4 : Int32} {l5 : Int32} {h : eH} {q} (hf : fX35_define_b128 N sE k47 l0 l1 l2 l3 l4 l5 h = some q) : wp w (d + 1) YX35_define 128 [some (.ref l0), some (.int l1), some (.int l2), some (.int l3), some (.int l4), some (.int l5), none, none, none, none] [] h (e_is (e_rn c_V q)) := by
  unfold fX35_define_b128 at hf
  refine w_aload_n dX35_define_128 rfl rfl ?_
  refine w_bipush dX35_define_129 (v := 12) (by decide) ?_
  obtain ⟨_, b1, hf⟩ := Option.bind_eq_some_iff.mp hf
  refine x_cnV hf (e_stV (Yc := YX35_fail) (ci := 34) (av := [.int (12 : Int32)]) (st := []) dX35_define_131 q5109 mX35_fail rfl (k_ok_some b1).1 (k_ok_some b1).2) mX35_fail.2.2.1 mX35_fail.2.2.2.2.1 (Nat.le_of_ble_eq_true rfl) (Nat.le_of_ble_eq_true rfl) (fun q hq => pX35_fail (by omega) hq) (fun q2 hf => ?_)
  exact (pX35_define_b134 hd hdr hsE hk47 hf).to ⟨rfl, rfl, rfl, rfl, rfl, rfl, trivial⟩
def fX35_define_b347 (N : Nat) (sE : Nat → Int32 → eH → Option (Unit × eH)) (k171 : Nat → Int32 → Int32 → Int32 → Int32 → Int32 → Int32 → Int32 → eH → Option (Unit × eH)) (l0 : Nat) (l1 : Int32) (l2 : Int32) (l3 : Int32) (l4 : Int32) (l5 : Int32) (l6 : Int32) (l7 : Int32) (l8 : Int32) (h : eH) : Option (Unit × eH) :=
  if l8 ≤ 0 then
    k171 l0 l1 l2 l3 l4 l5 l7 l8 h
  else
    (k_ok 34 h l0).bind fun _ =>
    (fX35_keep l0 l6 h).bind fun q3 =>
    k171 l0 l1 l2 l3 l4 l5 l7 l8 q3.2
theorem pX35_define_b347 {w : eW} {d : Nat} {dr : Nat} (hd : dr + 7 ≤ d + 1) (hdr : 12 ≤ dr) {N : Nat} {sE : Nat → Int32 → eH → Option (Unit × eH)} (hsE : ∀ a t0 h q, sE a t0 h = some q → wm w dr YX35_expand [.ref a, .int t0] h (e_is (e_rn c_V q))) {k171 : Nat → Int32 → Int32 → Int32 → Int32 → Int32 → Int32 → Int32 → eH → Option (Unit × eH)} (hk171 : ∀ l0 l1 l2 l3 l4 l5 l7 l8 h q, k171 l0 l1 l2 l3 l4 l5 l7 l8 h = some q → wp w (d + 1) YX35_define 171 [some (.ref l0), some (.int l1), some (.int l2), some (.int l3), some (.int l4), some (.int l5), none, some (.int l7), some (.int l8), none] [] h (e_is (e_rn c_V q))) {l0 : Nat} {l1 : Int32} {l2 : Int32} {l3 : Int32} {l4 : Int32} {l5 : Int32} {l6 : Int32} {l7 : Int32} {l8 : Int32} {h : eH} {q} (hf : fX35_define_b347 N sE k171 l0 l1 l2 l3 l4 l5 l6 l7 l8 h = some q) : wp w (d + 1) YX35_define 347 [some (.ref l0), some (.int l1), some (.int l2), some (.int l3), some (.int l4), some (.int l5), some (.int l6), some (.int l7), some (.int l8), none] [] h (e_is (e_rn c_V q)) := by
  unfold fX35_define_b347 at hf
  refine w_iload dX35_define_347 rfl ?_
  refine w_if_le 171 dX35_define_349 (by decide) (fun c1 => ?_) (fun c1 => ?_)
  · replace hf := (if_pos (show l8 ≤ 0 from c1)).symm.trans hf
    exact (hk171 _ _ _ _ _ _ _ _ _ _ hf).to ⟨rfl, rfl, rfl, rfl, rfl, rfl, rfl, rfl, trivial⟩
  · replace hf := (if_neg (show ¬ (l8 ≤ 0) from c1)).symm.trans hf
    refine w_aload_n dX35_define_352 rfl rfl ?_
    refine w_iload dX35_define_353 rfl ?_
    obtain ⟨_, b2, hf⟩ := Option.bind_eq_some_iff.mp hf
    refine x_cnV hf (e_stV (Yc := YX35_keep) (ci := 34) (av := [.int l6]) (st := []) dX35_define_355 q5930 mX35_keep rfl (k_ok_some b2).1 (k_ok_some b2).2) mX35_keep.2.2.1 mX35_keep.2.2.2.2.1 (Nat.le_of_ble_eq_true rfl) (Nat.le_of_ble_eq_true rfl) (fun q hq => pX35_keep (by omega) hq) (fun q3 hf => ?_)
    refine w_goto 171 dX35_define_358 (by decide) ?_
    exact (hk171 _ _ _ _ _ _ _ _ _ _ hf).to ⟨rfl, rfl, rfl, rfl, rfl, rfl, rfl, rfl, trivial⟩
def fX35_define_b345 (N : Nat) (sE : Nat → Int32 → eH → Option (Unit × eH)) (k171 : Nat → Int32 → Int32 → Int32 → Int32 → Int32 → Int32 → Int32 → eH → Option (Unit × eH)) (l0 : Nat) (l1 : Int32) (l2 : Int32) (l3 : Int32) (l4 : Int32) (l5 : Int32) (l7 : Int32) (l8 : Int32) (s0 : Int32) (h : eH) : Option (Unit × eH) :=
  fX35_define_b347 N sE k171 l0 l1 l2 l3 l4 l5 s0 l7 l8 h
theorem pX35_define_b345 {w : eW} {d : Nat} {dr : Nat} (hd : dr + 7 ≤ d + 1) (hdr : 12 ≤ dr) {N : Nat} {sE : Nat → Int32 → eH → Option (Unit × eH)} (hsE : ∀ a t0 h q, sE a t0 h = some q → wm w dr YX35_expand [.ref a, .int t0] h (e_is (e_rn c_V q))) {k171 : Nat → Int32 → Int32 → Int32 → Int32 → Int32 → Int32 → Int32 → eH → Option (Unit × eH)} (hk171 : ∀ l0 l1 l2 l3 l4 l5 l7 l8 h q, k171 l0 l1 l2 l3 l4 l5 l7 l8 h = some q → wp w (d + 1) YX35_define 171 [some (.ref l0), some (.int l1), some (.int l2), some (.int l3), some (.int l4), some (.int l5), none, some (.int l7), some (.int l8), none] [] h (e_is (e_rn c_V q))) {l0 : Nat} {l1 : Int32} {l2 : Int32} {l3 : Int32} {l4 : Int32} {l5 : Int32} {l7 : Int32} {l8 : Int32} {s0 : Int32} {h : eH} {q} (hf : fX35_define_b345 N sE k171 l0 l1 l2 l3 l4 l5 l7 l8 s0 h = some q) : wp w (d + 1) YX35_define 345 [some (.ref l0), some (.int l1), some (.int l2), some (.int l3), some (.int l4), some (.int l5), none, some (.int l7), some (.int l8), none] [.int s0] h (e_is (e_rn c_V q)) := by
  unfold fX35_define_b345 at hf
  refine w_istore dX35_define_345 (by decide) (ls' := [some (.ref l0), some (.int l1), some (.int l2), some (.int l3), some (.int l4), some (.int l5), some (.int s0), some (.int l7), some (.int l8), none]) rfl ?_
  exact (pX35_define_b347 hd hdr hsE hk171 hf).to ⟨rfl, rfl, rfl, rfl, rfl, rfl, rfl, rfl, rfl, trivial⟩
def fX35_define_b329 (N : Nat) (sE : Nat → Int32 → eH → Option (Unit × eH)) (k171 : Nat → Int32 → Int32 → Int32 → Int32 → Int32 → Int32 → Int32 → eH → Option (Unit × eH)) (l0 : Nat) (l1 : Int32) (l2 : Int32) (l3 : Int32) (l4 : Int32) (l5 : Int32) (l6 : Int32) (l7 : Int32) (l8 : Int32) (l9 : Int32) (h : eH) : Option (Unit × eH) :=
  if l9 ≤ 0 then
    fX35_define_b345 N sE k171 l0 l1 l2 l3 l4 l5 l7 l8 l6 h
  else
    fX35_define_b345 N sE k171 l0 l1 l2 l3 l4 l5 l7 l8 ((262144 : Int32) + l9) h
theorem pX35_define_b329 {w : eW} {d : Nat} {dr : Nat} (hd : dr + 7 ≤ d + 1) (hdr : 12 ≤ dr) {N : Nat} {sE : Nat → Int32 → eH → Option (Unit × eH)} (hsE : ∀ a t0 h q, sE a t0 h = some q → wm w dr YX35_expand [.ref a, .int t0] h (e_is (e_rn c_V q))) {k171 : Nat → Int32 → Int32 → Int32 → Int32 → Int32 → Int32 → Int32 → eH → Option (Unit × eH)} (hk171 : ∀ l0 l1 l2 l3 l4 l5 l7 l8 h q, k171 l0 l1 l2 l3 l4 l5 l7 l8 h = some q → wp w (d + 1) YX35_define 171 [some (.ref l0), some (.int l1), some (.int l2), some (.int l3), some (.int l4), some (.int l5), none, some (.int l7), some (.int l8), none] [] h (e_is (e_rn c_V q))) {l0 : Nat} {l1 : Int32} {l2 : Int32} {l3 : Int32} {l4 : Int32} {l5 : Int32} {l6 : Int32} {l7 : Int32} {l8 : Int32} {l9 : Int32} {h : eH} {q} (hf : fX35_define_b329 N sE k171 l0 l1 l2 l3 l4 l5 l6 l7 l8 l9 h = some q) : wp w (d + 1) YX35_define 329 [some (.ref l0), some (.int l1), some (.int l2), some (.int l3), some (.int l4), some (.int l5), some (.int l6), some (.int l7), some (.int l8), some (.int l9)] [] h (e_is (e_rn c_V q)) := by
  unfold fX35_define_b329 at hf
  refine w_iload dX35_define_329 rfl ?_
  refine w_if_le 343 dX35_define_331 (by decide) (fun c1 => ?_) (fun c1 => ?_)
  · replace hf := (if_pos (show l9 ≤ 0 from c1)).symm.trans hf
    refine w_iload dX35_define_343 rfl ?_
    exact (pX35_define_b345 hd hdr hsE hk171 hf).to ⟨rfl, rfl, rfl, rfl, rfl, rfl, rfl, rfl, trivial⟩
  · replace hf := (if_neg (show ¬ (l9 ≤ 0) from c1)).symm.trans hf
    refine w_ldc_w dX35_define_334 q4487 ?_
    refine w_iload dX35_define_337 rfl ?_
    refine w_iadd dX35_define_339 ?_
    refine w_goto 345 dX35_define_340 (by decide) ?_
    exact (pX35_define_b345 hd hdr hsE hk171 hf).to ⟨rfl, rfl, rfl, rfl, rfl, rfl, rfl, rfl, trivial⟩
def fX35_define_b323 (N : Nat) (sE : Nat → Int32 → eH → Option (Unit × eH)) (k171 : Nat → Int32 → Int32 → Int32 → Int32 → Int32 → Int32 → Int32 → eH → Option (Unit × eH)) (l0 : Nat) (l1 : Int32) (l2 : Int32) (l3 : Int32) (l4 : Int32) (l5 : Int32) (l6 : Int32) (l7 : Int32) (l8 : Int32) (l9 : Int32) (h : eH) : Option (Unit × eH) :=
  (k_ok 34 h l0).bind fun _ =>
  (fX35_fail l0 (12 : Int32) h).bind fun q2 =>
  fX35_define_b329 N sE k171 l0 l1 l2 l3 l4 l5 l6 l7 l8 l9 q2.2
theorem pX35_define_b323 {w : eW} {d : Nat} {dr : Nat} (hd : dr + 7 ≤ d + 1) (hdr : 12 ≤ dr) {N : Nat} {sE : Nat → Int32 → eH → Option (Unit × eH)} (hsE : ∀ a t0 h q, sE a t0 h = some q → wm w dr YX35_expand [.ref a, .int t0] h (e_is (e_rn c_V q))) {k171 : Nat → Int32 → Int32 → Int32 → Int32 → Int32 → Int32 → Int32 → eH → Option (Unit × eH)} (hk171 : ∀ l0 l1 l2 l3 l4 l5 l7 l8 h q, k171 l0 l1 l2 l3 l4 l5 l7 l8 h = some q → wp w (d + 1) YX35_define 171 [some (.ref l0), some (.int l1), some (.int l2), some (.int l3), some (.int l4), some (.int l5), none, some (.int l7), some (.int l8), none] [] h (e_is (e_rn c_V q))) {l0 : Nat} {l1 : Int32} {l2 : Int32} {l3 : Int32} {l4 : Int32} {l5 : Int32} {l6 : Int32} {l7 : Int32} {l8 : Int32} {l9 : Int32} {h : eH} {q} (hf : fX35_define_b323 N sE k171 l0 l1 l2 l3 l4 l5 l6 l7 l8 l9 h = some q) : wp w (d + 1) YX35_define 323 [some (.ref l0), some (.int l1), some (.int l2), some (.int l3), some (.int l4), some (.int l5), some (.int l6), some (.int l7), some (.int l8), some (.int l9)] [] h (e_is (e_rn c_V q)) := by
  unfold fX35_define_b323 at hf
  refine w_aload_n dX35_define_323 rfl rfl ?_
  refine w_bipush dX35_define_324 (v := 12) (by decide) ?_
  obtain ⟨_, b1, hf⟩ := Option.bind_eq_some_iff.mp hf
  refine x_cnV hf (e_stV (Yc := YX35_fail) (ci := 34) (av := [.int (12 : Int32)]) (st := []) dX35_define_326 q5109 mX35_fail rfl (k_ok_some b1).1 (k_ok_some b1).2) mX35_fail.2.2.1 mX35_fail.2.2.2.2.1 (Nat.le_of_ble_eq_true rfl) (Nat.le_of_ble_eq_true rfl) (fun q hq => pX35_fail (by omega) hq) (fun q2 hf => ?_)
  exact (pX35_define_b329 hd hdr hsE hk171 hf).to ⟨rfl, rfl, rfl, rfl, rfl, rfl, rfl, rfl, rfl, rfl, trivial⟩
def fX35_define_b292 (N : Nat) (sE : Nat → Int32 → eH → Option (Unit × eH)) (k171 : Nat → Int32 → Int32 → Int32 → Int32 → Int32 → Int32 → Int32 → eH → Option (Unit × eH)) (l0 : Nat) (l1 : Int32) (l2 : Int32) (l3 : Int32) (l4 : Int32) (l5 : Int32) (l6 : Int32) (l7 : Int32) (l8 : Int32) (s0 : Int32) (h : eH) : Option (Unit × eH) :=
  (g_I 34 h l0 46).bind fun x1 =>
  if ¬ x1 = 0 then
    fX35_define_b329 N sE k171 l0 l1 l2 l3 l4 l5 l6 l7 l8 s0 h
  else
    (fX35_isOf l6 (6 : Int32) h).bind fun q4 =>
    if ¬ q4.1 = 0 then
      fX35_define_b329 N sE k171 l0 l1 l2 l3 l4 l5 l6 l7 l8 s0 q4.2
    else
      if s0 = 0 then
        fX35_define_b323 N sE k171 l0 l1 l2 l3 l4 l5 l6 l7 l8 s0 q4.2
      else
        if s0 ≤ l5 then
          fX35_define_b329 N sE k171 l0 l1 l2 l3 l4 l5 l6 l7 l8 s0 q4.2
        else
          fX35_define_b323 N sE k171 l0 l1 l2 l3 l4 l5 l6 l7 l8 s0 q4.2
theorem pX35_define_b292 {w : eW} {d : Nat} {dr : Nat} (hd : dr + 7 ≤ d + 1) (hdr : 12 ≤ dr) {N : Nat} {sE : Nat → Int32 → eH → Option (Unit × eH)} (hsE : ∀ a t0 h q, sE a t0 h = some q → wm w dr YX35_expand [.ref a, .int t0] h (e_is (e_rn c_V q))) {k171 : Nat → Int32 → Int32 → Int32 → Int32 → Int32 → Int32 → Int32 → eH → Option (Unit × eH)} (hk171 : ∀ l0 l1 l2 l3 l4 l5 l7 l8 h q, k171 l0 l1 l2 l3 l4 l5 l7 l8 h = some q → wp w (d + 1) YX35_define 171 [some (.ref l0), some (.int l1), some (.int l2), some (.int l3), some (.int l4), some (.int l5), none, some (.int l7), some (.int l8), none] [] h (e_is (e_rn c_V q))) {l0 : Nat} {l1 : Int32} {l2 : Int32} {l3 : Int32} {l4 : Int32} {l5 : Int32} {l6 : Int32} {l7 : Int32} {l8 : Int32} {s0 : Int32} {h : eH} {q} (hf : fX35_define_b292 N sE k171 l0 l1 l2 l3 l4 l5 l6 l7 l8 s0 h = some q) : wp w (d + 1) YX35_define 292 [some (.ref l0), some (.int l1), some (.int l2), some (.int l3), some (.int l4), some (.int l5), some (.int l6), some (.int l7), some (.int l8), none] [.int s0] h (e_is (e_rn c_V q)) := by
  unfold fX35_define_b292 at hf
  refine w_istore dX35_define_292 (by decide) (ls' := [some (.ref l0), some (.int l1), some (.int l2), some (.int l3), some (.int l4), some (.int l5), some (.int l6), some (.int l7), some (.int l8), some (.int s0)]) rfl ?_
  refine w_aload_n dX35_define_294 rfl rfl ?_
  obtain ⟨x1, b2, hf⟩ := Option.bind_eq_some_iff.mp hf
  refine GX35_321 b2 dX35_define_295 rfl ?_
  refine w_if_ne 329 dX35_define_298 (by decide) (fun c3 => ?_) (fun c3 => ?_)
  · replace hf := (if_pos (show ¬ x1 = 0 from c3)).symm.trans hf
    exact (pX35_define_b329 hd hdr hsE hk171 hf).to ⟨rfl, rfl, rfl, rfl, rfl, rfl, rfl, rfl, rfl, rfl, trivial⟩
  · replace hf := (if_neg (show ¬ (¬ x1 = 0) from (fun z => z c3))).symm.trans hf
    refine w_iload dX35_define_301 rfl ?_
    refine w_bipush dX35_define_303 (v := 6) (by decide) ?_
    refine x_cnI hf (e_stS (Yc := YX35_isOf) (av := [.int l6, .int (6 : Int32)]) (st := []) dX35_define_305 q5166 mX35_isOf) mX35_isOf.2.2.1 mX35_isOf.2.2.2.2.1 (Nat.le_of_ble_eq_true rfl) (Nat.le_of_ble_eq_true rfl) (fun q hq => pX35_isOf (by omega) hq) (fun q4 hf => ?_)
    refine w_if_ne 329 dX35_define_308 (by decide) (fun c5 => ?_) (fun c5 => ?_)
    · replace hf := (if_pos (show ¬ q4.1 = 0 from c5)).symm.trans hf
      exact (pX35_define_b329 hd hdr hsE hk171 hf).to ⟨rfl, rfl, rfl, rfl, rfl, rfl, rfl, rfl, rfl, rfl, trivial⟩
    · replace hf := (if_neg (show ¬ (¬ q4.1 = 0) from (fun z => z c5))).symm.trans hf
      refine w_iload dX35_define_311 rfl ?_
      refine w_if_eq 323 dX35_define_313 (by decide) (fun c6 => ?_) (fun c6 => ?_)
      · replace hf := (if_pos (show s0 = 0 from c6)).symm.trans hf
        exact (pX35_define_b323 hd hdr hsE hk171 hf).to ⟨rfl, rfl, rfl, rfl, rfl, rfl, rfl, rfl, rfl, rfl, trivial⟩
      · replace hf := (if_neg (show ¬ (s0 = 0) from c6)).symm.trans hf
        refine w_iload dX35_define_316 rfl ?_
        refine w_iload dX35_define_318 rfl ?_
        refine w_icmp_le 329 dX35_define_320 (by decide) (fun c7 => ?_) (fun c7 => ?_)
        · replace hf := (if_pos (show s0 ≤ l5 from c7)).symm.trans hf
          exact (pX35_define_b329 hd hdr hsE hk171 hf).to ⟨rfl, rfl, rfl, rfl, rfl, rfl, rfl, rfl, rfl, rfl, trivial⟩
        · replace hf := (if_neg (show ¬ (s0 ≤ l5) from c7)).symm.trans hf
          exact (pX35_define_b323 hd hdr hsE hk171 hf).to ⟨rfl, rfl, rfl, rfl, rfl, rfl, rfl, rfl, rfl, rfl, trivial⟩
def fX35_define_b269 (N : Nat) (sE : Nat → Int32 → eH → Option (Unit × eH)) (k171 : Nat → Int32 → Int32 → Int32 → Int32 → Int32 → Int32 → Int32 → eH → Option (Unit × eH)) (l0 : Nat) (l1 : Int32) (l2 : Int32) (l3 : Int32) (l4 : Int32) (l5 : Int32) (l7 : Int32) (l8 : Int32) (s0 : Int32) (h : eH) : Option (Unit × eH) :=
  (fX35_isDigit s0 h).bind fun q1 =>
  if q1.1 = 0 then
    fX35_define_b292 N sE k171 l0 l1 l2 l3 l4 l5 s0 l7 l8 (0 : Int32) q1.2
  else
    fX35_define_b292 N sE k171 l0 l1 l2 l3 l4 l5 s0 l7 l8 ((s0 - s0 / (256 : Int32) * (256 : Int32)) - (48 : Int32)) q1.2
theorem pX35_define_b269 {w : eW} {d : Nat} {dr : Nat} (hd : dr + 7 ≤ d + 1) (hdr : 12 ≤ dr) {N : Nat} {sE : Nat → Int32 → eH → Option (Unit × eH)} (hsE : ∀ a t0 h q, sE a t0 h = some q → wm w dr YX35_expand [.ref a, .int t0] h (e_is (e_rn c_V q))) {k171 : Nat → Int32 → Int32 → Int32 → Int32 → Int32 → Int32 → Int32 → eH → Option (Unit × eH)} (hk171 : ∀ l0 l1 l2 l3 l4 l5 l7 l8 h q, k171 l0 l1 l2 l3 l4 l5 l7 l8 h = some q → wp w (d + 1) YX35_define 171 [some (.ref l0), some (.int l1), some (.int l2), some (.int l3), some (.int l4), some (.int l5), none, some (.int l7), some (.int l8), none] [] h (e_is (e_rn c_V q))) {l0 : Nat} {l1 : Int32} {l2 : Int32} {l3 : Int32} {l4 : Int32} {l5 : Int32} {l7 : Int32} {l8 : Int32} {s0 : Int32} {h : eH} {q} (hf : fX35_define_b269 N sE k171 l0 l1 l2 l3 l4 l5 l7 l8 s0 h = some q) : wp w (d + 1) YX35_define 269 [some (.ref l0), some (.int l1), some (.int l2), some (.int l3), some (.int l4), some (.int l5), none, some (.int l7), some (.int l8), none] [.int s0] h (e_is (e_rn c_V q)) := by
  unfold fX35_define_b269 at hf
  refine w_istore dX35_define_269 (by decide) (ls' := [some (.ref l0), some (.int l1), some (.int l2), some (.int l3), some (.int l4), some (.int l5), some (.int s0), some (.int l7), some (.int l8), none]) rfl ?_
  refine w_iload dX35_define_271 rfl ?_
  refine x_cnI hf (e_stS (Yc := YX35_isDigit) (av := [.int s0]) (st := []) dX35_define_273 q5232 mX35_isDigit) mX35_isDigit.2.2.1 mX35_isDigit.2.2.2.2.1 (Nat.le_of_ble_eq_true rfl) (Nat.le_of_ble_eq_true rfl) (fun q hq => pX35_isDigit (by omega) hq) (fun q1 hf => ?_)
  refine w_if_eq 291 dX35_define_276 (by decide) (fun c2 => ?_) (fun c2 => ?_)
  · replace hf := (if_pos (show q1.1 = 0 from c2)).symm.trans hf
    refine w_iconst dX35_define_291 (v := 0) (by decide) ?_
    exact (pX35_define_b292 hd hdr hsE hk171 hf).to ⟨rfl, rfl, rfl, rfl, rfl, rfl, rfl, rfl, rfl, trivial⟩
  · replace hf := (if_neg (show ¬ (q1.1 = 0) from c2)).symm.trans hf
    refine w_iload dX35_define_279 rfl ?_
    refine w_sipush dX35_define_281 (v := 256) (by decide) ?_
    refine w_irem dX35_define_284 (by decide) ?_
    refine w_bipush dX35_define_285 (v := 48) (by decide) ?_
    refine w_isub dX35_define_287 ?_
    refine w_goto 292 dX35_define_288 (by decide) ?_
    exact (pX35_define_b292 hd hdr hsE hk171 hf).to ⟨rfl, rfl, rfl, rfl, rfl, rfl, rfl, rfl, rfl, trivial⟩
def fX35_define_b242 (N : Nat) (sE : Nat → Int32 → eH → Option (Unit × eH)) (k171 : Nat → Int32 → Int32 → Int32 → Int32 → Int32 → Int32 → Int32 → eH → Option (Unit × eH)) (l0 : Nat) (l1 : Int32) (l2 : Int32) (l3 : Int32) (l4 : Int32) (l5 : Int32) (l6 : Int32) (l7 : Int32) (s0 : Int32) (h : eH) : Option (Unit × eH) :=
  (fX35_isOf l6 (6 : Int32) h).bind fun q1 =>
  if q1.1 = 0 then
    fX35_define_b347 N sE k171 l0 l1 l2 l3 l4 l5 l6 l7 s0 q1.2
  else
    if l1 = 0 then
      (k_ok 34 q1.2 l0).bind fun _ =>
      (fX35_need N l0 q1.2).bind fun q5 =>
      fX35_define_b269 N sE k171 l0 l1 l2 l3 l4 l5 l7 s0 q5.1 q5.2
    else
      (k_ok 34 q1.2 l0).bind fun _ =>
      (fX35_needExpanded N sE l0 q1.2).bind fun q7 =>
      fX35_define_b269 N sE k171 l0 l1 l2 l3 l4 l5 l7 s0 q7.1 q7.2
theorem pX35_define_b242 {w : eW} {d : Nat} {dr : Nat} (hd : dr + 7 ≤ d + 1) (hdr : 12 ≤ dr) {N : Nat} {sE : Nat → Int32 → eH → Option (Unit × eH)} (hsE : ∀ a t0 h q, sE a t0 h = some q → wm w dr YX35_expand [.ref a, .int t0] h (e_is (e_rn c_V q))) {k171 : Nat → Int32 → Int32 → Int32 → Int32 → Int32 → Int32 → Int32 → eH → Option (Unit × eH)} (hk171 : ∀ l0 l1 l2 l3 l4 l5 l7 l8 h q, k171 l0 l1 l2 l3 l4 l5 l7 l8 h = some q → wp w (d + 1) YX35_define 171 [some (.ref l0), some (.int l1), some (.int l2), some (.int l3), some (.int l4), some (.int l5), none, some (.int l7), some (.int l8), none] [] h (e_is (e_rn c_V q))) {l0 : Nat} {l1 : Int32} {l2 : Int32} {l3 : Int32} {l4 : Int32} {l5 : Int32} {l6 : Int32} {l7 : Int32} {s0 : Int32} {h : eH} {q} (hf : fX35_define_b242 N sE k171 l0 l1 l2 l3 l4 l5 l6 l7 s0 h = some q) : wp w (d + 1) YX35_define 242 [some (.ref l0), some (.int l1), some (.int l2), some (.int l3), some (.int l4), some (.int l5), some (.int l6), some (.int l7), none, none] [.int s0] h (e_is (e_rn c_V q)) := by
  unfold fX35_define_b242 at hf
  refine w_istore dX35_define_242 (by decide) (ls' := [some (.ref l0), some (.int l1), some (.int l2), some (.int l3), some (.int l4), some (.int l5), some (.int l6), some (.int l7), some (.int s0), none]) rfl ?_
  refine w_iload dX35_define_244 rfl ?_
  refine w_bipush dX35_define_246 (v := 6) (by decide) ?_
  refine x_cnI hf (e_stS (Yc := YX35_isOf) (av := [.int l6, .int (6 : Int32)]) (st := []) dX35_define_248 q5166 mX35_isOf) mX35_isOf.2.2.1 mX35_isOf.2.2.2.2.1 (Nat.le_of_ble_eq_true rfl) (Nat.le_of_ble_eq_true rfl) (fun q hq => pX35_isOf (by omega) hq) (fun q1 hf => ?_)
  refine w_if_eq 347 dX35_define_251 (by decide) (fun c2 => ?_) (fun c2 => ?_)
  · replace hf := (if_pos (show q1.1 = 0 from c2)).symm.trans hf
    exact (pX35_define_b347 hd hdr hsE hk171 hf).to ⟨rfl, rfl, rfl, rfl, rfl, rfl, rfl, rfl, rfl, trivial⟩
  · replace hf := (if_neg (show ¬ (q1.1 = 0) from c2)).symm.trans hf
    refine w_iload_n dX35_define_254 rfl rfl ?_
    refine w_if_eq 265 dX35_define_255 (by decide) (fun c3 => ?_) (fun c3 => ?_)
    · replace hf := (if_pos (show l1 = 0 from c3)).symm.trans hf
      refine w_aload_n dX35_define_265 rfl rfl ?_
      obtain ⟨_, b4, hf⟩ := Option.bind_eq_some_iff.mp hf
      refine x_cnI hf (e_stV (Yc := YX35_need) (ci := 34) (av := []) (st := []) dX35_define_266 q5154 mX35_need rfl (k_ok_some b4).1 (k_ok_some b4).2) mX35_need.2.2.1 mX35_need.2.2.2.2.1 (Nat.le_of_ble_eq_true rfl) (Nat.le_of_ble_eq_true rfl) (fun q hq => pX35_need (by omega) hq) (fun q5 hf => ?_)
      exact (pX35_define_b269 hd hdr hsE hk171 hf).to ⟨rfl, rfl, rfl, rfl, rfl, rfl, rfl, rfl, trivial⟩
    · replace hf := (if_neg (show ¬ (l1 = 0) from c3)).symm.trans hf
      refine w_aload_n dX35_define_258 rfl rfl ?_
      obtain ⟨_, b6, hf⟩ := Option.bind_eq_some_iff.mp hf
      refine x_cnI hf (e_stV (Yc := YX35_needExpanded) (ci := 34) (av := []) (st := []) dX35_define_259 q5193 mX35_needExpanded rfl (k_ok_some b6).1 (k_ok_some b6).2) mX35_needExpanded.2.2.1 mX35_needExpanded.2.2.2.2.1 (Nat.le_of_ble_eq_true rfl) (Nat.le_of_ble_eq_true rfl) (fun q hq => pX35_needExpanded (by omega) hdr hsE hq) (fun q7 hf => ?_)
      refine w_goto 269 dX35_define_262 (by decide) ?_
      exact (pX35_define_b269 hd hdr hsE hk171 hf).to ⟨rfl, rfl, rfl, rfl, rfl, rfl, rfl, rfl, trivial⟩
def fX35_define_b198 (N : Nat) (sE : Nat → Int32 → eH → Option (Unit × eH)) (k171 : Nat → Int32 → Int32 → Int32 → Int32 → Int32 → Int32 → Int32 → eH → Option (Unit × eH)) (l0 : Nat) (l1 : Int32) (l2 : Int32) (l3 : Int32) (l4 : Int32) (l5 : Int32) (l7 : Int32) (l8 : Int32) (s0 : Int32) (h : eH) : Option (Unit × eH) :=
  (g_I 34 h l0 46).bind fun x1 =>
  if x1 ≤ 0 then
    (fX35_isOf s0 (1 : Int32) h).bind fun q4 =>
    if q4.1 = 0 then
      (fX35_isOf s0 (2 : Int32) q4.2).bind fun q6 =>
      if q6.1 = 0 then
        fX35_define_b242 N sE k171 l0 l1 l2 l3 l4 l5 s0 l7 l8 q6.2
      else
        fX35_define_b242 N sE k171 l0 l1 l2 l3 l4 l5 s0 l7 (l8 - (1 : Int32)) q6.2
    else
      fX35_define_b242 N sE k171 l0 l1 l2 l3 l4 l5 s0 l7 (l8 + (1 : Int32)) q4.2
  else
    some ((), h)
theorem pX35_define_b198 {w : eW} {d : Nat} {dr : Nat} (hd : dr + 7 ≤ d + 1) (hdr : 12 ≤ dr) {N : Nat} {sE : Nat → Int32 → eH → Option (Unit × eH)} (hsE : ∀ a t0 h q, sE a t0 h = some q → wm w dr YX35_expand [.ref a, .int t0] h (e_is (e_rn c_V q))) {k171 : Nat → Int32 → Int32 → Int32 → Int32 → Int32 → Int32 → Int32 → eH → Option (Unit × eH)} (hk171 : ∀ l0 l1 l2 l3 l4 l5 l7 l8 h q, k171 l0 l1 l2 l3 l4 l5 l7 l8 h = some q → wp w (d + 1) YX35_define 171 [some (.ref l0), some (.int l1), some (.int l2), some (.int l3), some (.int l4), some (.int l5), none, some (.int l7), some (.int l8), none] [] h (e_is (e_rn c_V q))) {l0 : Nat} {l1 : Int32} {l2 : Int32} {l3 : Int32} {l4 : Int32} {l5 : Int32} {l7 : Int32} {l8 : Int32} {s0 : Int32} {h : eH} {q} (hf : fX35_define_b198 N sE k171 l0 l1 l2 l3 l4 l5 l7 l8 s0 h = some q) : wp w (d + 1) YX35_define 198 [some (.ref l0), some (.int l1), some (.int l2), some (.int l3), some (.int l4), some (.int l5), none, some (.int l7), some (.int l8), none] [.int s0] h (e_is (e_rn c_V q)) := by
  unfold fX35_define_b198 at hf
  refine w_istore dX35_define_198 (by decide) (ls' := [some (.ref l0), some (.int l1), some (.int l2), some (.int l3), some (.int l4), some (.int l5), some (.int s0), some (.int l7), some (.int l8), none]) rfl ?_
  refine w_aload_n dX35_define_200 rfl rfl ?_
  obtain ⟨x1, b2, hf⟩ := Option.bind_eq_some_iff.mp hf
  refine GX35_321 b2 dX35_define_201 rfl ?_
  refine w_if_le 208 dX35_define_204 (by decide) (fun c3 => ?_) (fun c3 => ?_)
  · replace hf := (if_pos (show x1 ≤ 0 from c3)).symm.trans hf
    refine w_iload dX35_define_208 rfl ?_
    refine w_iconst dX35_define_210 (v := 1) (by decide) ?_
    refine x_cnI hf (e_stS (Yc := YX35_isOf) (av := [.int s0, .int (1 : Int32)]) (st := []) dX35_define_211 q5166 mX35_isOf) mX35_isOf.2.2.1 mX35_isOf.2.2.2.2.1 (Nat.le_of_ble_eq_true rfl) (Nat.le_of_ble_eq_true rfl) (fun q hq => pX35_isOf (by omega) hq) (fun q4 hf => ?_)
    refine w_if_eq 224 dX35_define_214 (by decide) (fun c5 => ?_) (fun c5 => ?_)
    · replace hf := (if_pos (show q4.1 = 0 from c5)).symm.trans hf
      refine w_iload dX35_define_224 rfl ?_
      refine w_iconst dX35_define_226 (v := 2) (by decide) ?_
      refine x_cnI hf (e_stS (Yc := YX35_isOf) (av := [.int s0, .int (2 : Int32)]) (st := []) dX35_define_227 q5166 mX35_isOf) mX35_isOf.2.2.1 mX35_isOf.2.2.2.2.1 (Nat.le_of_ble_eq_true rfl) (Nat.le_of_ble_eq_true rfl) (fun q hq => pX35_isOf (by omega) hq) (fun q6 hf => ?_)
      refine w_if_eq 240 dX35_define_230 (by decide) (fun c7 => ?_) (fun c7 => ?_)
      · replace hf := (if_pos (show q6.1 = 0 from c7)).symm.trans hf
        refine w_iload dX35_define_240 rfl ?_
        exact (pX35_define_b242 hd hdr hsE hk171 hf).to ⟨rfl, rfl, rfl, rfl, rfl, rfl, rfl, rfl, trivial⟩
      · replace hf := (if_neg (show ¬ (q6.1 = 0) from c7)).symm.trans hf
        refine w_iload dX35_define_233 rfl ?_
        refine w_iconst dX35_define_235 (v := 1) (by decide) ?_
        refine w_isub dX35_define_236 ?_
        refine w_goto 242 dX35_define_237 (by decide) ?_
        exact (pX35_define_b242 hd hdr hsE hk171 hf).to ⟨rfl, rfl, rfl, rfl, rfl, rfl, rfl, rfl, trivial⟩
    · replace hf := (if_neg (show ¬ (q4.1 = 0) from c5)).symm.trans hf
      refine w_iload dX35_define_217 rfl ?_
      refine w_iconst dX35_define_219 (v := 1) (by decide) ?_
      refine w_iadd dX35_define_220 ?_
      refine w_goto 242 dX35_define_221 (by decide) ?_
      exact (pX35_define_b242 hd hdr hsE hk171 hf).to ⟨rfl, rfl, rfl, rfl, rfl, rfl, rfl, rfl, trivial⟩
  · replace hf := (if_neg (show ¬ (x1 ≤ 0) from c3)).symm.trans hf
    cases hf
    exact w_vret dX35_define_207 rfl rfl
def fX35_define_b437 (N : Nat) (sE : Nat → Int32 → eH → Option (Unit × eH))  (h : eH) : Option (Unit × eH) :=
  some ((), h)
theorem pX35_define_b437 {w : eW} {d : Nat} {dr : Nat} (hd : dr + 7 ≤ d + 1) (hdr : 12 ≤ dr) {N : Nat} {sE : Nat → Int32 → eH → Option (Unit × eH)} (hsE : ∀ a t0 h q, sE a t0 h = some q → wm w dr YX35_expand [.ref a, .int t0] h (e_is (e_rn c_V q)))  {h : eH} {q} (hf : fX35_define_b437 N sE h = some q) : wp w (d + 1) YX35_define 437 [none, none, none, none, none, none, none, none, none, none] [] h (e_is (e_rn c_V q)) := by
  unfold fX35_define_b437 at hf
  cases hf
  exact w_vret dX35_define_437 rfl rfl
def fX35_define_b361 (N : Nat) (sE : Nat → Int32 → eH → Option (Unit × eH)) (l0 : Nat) (l2 : Int32) (l3 : Int32) (l4 : Int32) (l5 : Int32) (l7 : Int32) (h : eH) : Option (Unit × eH) :=
  (g_I 34 h l0 46).bind fun x1 =>
  if ¬ x1 = 0 then
    fX35_define_b437 N sE h
  else
    (g_A 34 h l0 31).bind fun a4 =>
    (g_I 34 h l0 30).bind fun x6 =>
    (q_V 100 h a4 x6 (.int l5)).bind fun h8 =>
    (g_A 34 h8 l0 32).bind fun a10 =>
    (g_I 34 h8 l0 30).bind fun x12 =>
    (q_V 100 h8 a10 x12 (.int l4)).bind fun h14 =>
    (g_A 34 h14 l0 33).bind fun a16 =>
    (g_I 34 h14 l0 30).bind fun x18 =>
    (q_V 100 h14 a16 x18 (.int l7)).bind fun h20 =>
    (g_A 34 h20 l0 34).bind fun a22 =>
    (g_I 34 h20 l0 30).bind fun x24 =>
    (g_I 34 h20 l0 35).bind fun x26 =>
    (q_V 100 h20 a22 x24 (.int x26)).bind fun h28 =>
    (g_I 34 h28 l0 30).bind fun x30 =>
    (k_ok 34 h28 l0).bind fun _ =>
    (fX35_mean N l0 l3 ((100000 : Int32) + x30) l2 h28).bind fun q33 =>
    (g_I 34 q33.2 l0 30).bind fun x34 =>
    (p_V 34 q33.2 l0 30 (.int (x34 + (1 : Int32)))).bind fun h36 =>
    fX35_define_b437 N sE h36
theorem pX35_define_b361 {w : eW} {d : Nat} {dr : Nat} (hd : dr + 7 ≤ d + 1) (hdr : 12 ≤ dr) {N : Nat} {sE : Nat → Int32 → eH → Option (Unit × eH)} (hsE : ∀ a t0 h q, sE a t0 h = some q → wm w dr YX35_expand [.ref a, .int t0] h (e_is (e_rn c_V q))) {l0 : Nat} {l2 : Int32} {l3 : Int32} {l4 : Int32} {l5 : Int32} {l7 : Int32} {h : eH} {q} (hf : fX35_define_b361 N sE l0 l2 l3 l4 l5 l7 h = some q) : wp w (d + 1) YX35_define 361 [some (.ref l0), none, some (.int l2), some (.int l3), some (.int l4), some (.int l5), none, some (.int l7), none, none] [] h (e_is (e_rn c_V q)) := by
  unfold fX35_define_b361 at hf
  refine w_aload_n dX35_define_361 rfl rfl ?_
  obtain ⟨x1, b2, hf⟩ := Option.bind_eq_some_iff.mp hf
  refine GX35_321 b2 dX35_define_362 rfl ?_
  refine w_if_ne 437 dX35_define_365 (by decide) (fun c3 => ?_) (fun c3 => ?_)
  · replace hf := (if_pos (show ¬ x1 = 0 from c3)).symm.trans hf
    exact (pX35_define_b437 hd hdr hsE hf).to trivial
  · replace hf := (if_neg (show ¬ (¬ x1 = 0) from (fun z => z c3))).symm.trans hf
    refine w_aload_n dX35_define_368 rfl rfl ?_
    obtain ⟨a4, b5, hf⟩ := Option.bind_eq_some_iff.mp hf
    refine GX35_90 b5 dX35_define_369 rfl ?_
    refine w_aload_n dX35_define_372 rfl rfl ?_
    obtain ⟨x6, b7, hf⟩ := Option.bind_eq_some_iff.mp hf
    refine GX35_341 b7 dX35_define_373 rfl ?_
    refine w_iload dX35_define_376 rfl ?_
    obtain ⟨h8, b9, hf⟩ := Option.bind_eq_some_iff.mp hf
    refine x_qI b9 dX35_define_378 ?_
    refine w_aload_n dX35_define_379 rfl rfl ?_
    obtain ⟨a10, b11, hf⟩ := Option.bind_eq_some_iff.mp hf
    refine GX35_93 b11 dX35_define_380 rfl ?_
    refine w_aload_n dX35_define_383 rfl rfl ?_
    obtain ⟨x12, b13, hf⟩ := Option.bind_eq_some_iff.mp hf
    refine GX35_341 b13 dX35_define_384 rfl ?_
    refine w_iload dX35_define_387 rfl ?_
    obtain ⟨h14, b15, hf⟩ := Option.bind_eq_some_iff.mp hf
    refine x_qI b15 dX35_define_389 ?_
    refine w_aload_n dX35_define_390 rfl rfl ?_
    obtain ⟨a16, b17, hf⟩ := Option.bind_eq_some_iff.mp hf
    refine GX35_96 b17 dX35_define_391 rfl ?_
    refine w_aload_n dX35_define_394 rfl rfl ?_
    obtain ⟨x18, b19, hf⟩ := Option.bind_eq_some_iff.mp hf
    refine GX35_341 b19 dX35_define_395 rfl ?_
    refine w_iload dX35_define_398 rfl ?_
    obtain ⟨h20, b21, hf⟩ := Option.bind_eq_some_iff.mp hf
    refine x_qI b21 dX35_define_400 ?_
    refine w_aload_n dX35_define_401 rfl rfl ?_
    obtain ⟨a22, b23, hf⟩ := Option.bind_eq_some_iff.mp hf
    refine GX35_99 b23 dX35_define_402 rfl ?_
    refine w_aload_n dX35_define_405 rfl rfl ?_
    obtain ⟨x24, b25, hf⟩ := Option.bind_eq_some_iff.mp hf
    refine GX35_341 b25 dX35_define_406 rfl ?_
    refine w_aload_n dX35_define_409 rfl rfl ?_
    obtain ⟨x26, b27, hf⟩ := Option.bind_eq_some_iff.mp hf
    refine GX35_344 b27 dX35_define_410 rfl ?_
    obtain ⟨h28, b29, hf⟩ := Option.bind_eq_some_iff.mp hf
    refine x_qI b29 dX35_define_413 ?_
    refine w_aload_n dX35_define_414 rfl rfl ?_
    refine w_iload_n dX35_define_415 rfl rfl ?_
    refine w_ldc dX35_define_416 q4120 ?_
    refine w_aload_n dX35_define_418 rfl rfl ?_
    obtain ⟨x30, b31, hf⟩ := Option.bind_eq_some_iff.mp hf
    refine GX35_341 b31 dX35_define_419 rfl ?_
    refine w_iadd dX35_define_422 ?_
    refine w_iload_n dX35_define_423 rfl rfl ?_
    obtain ⟨_, b32, hf⟩ := Option.bind_eq_some_iff.mp hf
    refine x_cnV hf (e_stV (Yc := YX35_mean) (ci := 34) (av := [.int l3, .int ((100000 : Int32) + x30), .int l2]) (st := []) dX35_define_424 q5201 mX35_mean rfl (k_ok_some b32).1 (k_ok_some b32).2) mX35_mean.2.2.1 mX35_mean.2.2.2.2.1 (Nat.le_of_ble_eq_true rfl) (Nat.le_of_ble_eq_true rfl) (fun q hq => pX35_mean (by omega) hq) (fun q33 hf => ?_)
    refine w_aload_n dX35_define_427 rfl rfl ?_
    refine w_dup dX35_define_428 rfl ?_
    obtain ⟨x34, b35, hf⟩ := Option.bind_eq_some_iff.mp hf
    refine GX35_341 b35 dX35_define_429 rfl ?_
    refine w_iconst dX35_define_432 (v := 1) (by decide) ?_
    refine w_iadd dX35_define_433 ?_
    obtain ⟨h36, b37, hf⟩ := Option.bind_eq_some_iff.mp hf
    refine SX35_341 b37 dX35_define_434 rfl ?_
    exact (pX35_define_b437 hd hdr hsE hf).to trivial
def fX35_define_b171 (N : Nat) (sE : Nat → Int32 → eH → Option (Unit × eH)) : Nat → Nat → Int32 → Int32 → Int32 → Int32 → Int32 → Int32 → Int32 → eH → Option (Unit × eH)
  | 0, _, _, _, _, _, _, _, _, _ => none
  | n + 1, l0, l1, l2, l3, l4, l5, l7, l8, h =>
    (g_I 34 h l0 46).bind fun x1 =>
    if ¬ x1 = 0 then
      fX35_define_b361 N sE l0 l2 l3 l4 l5 l7 h
    else
      if l8 ≤ 0 then
        fX35_define_b361 N sE l0 l2 l3 l4 l5 l7 h
      else
        if l1 = 0 then
          (k_ok 34 h l0).bind fun _ =>
          (fX35_need N l0 h).bind fun q7 =>
          fX35_define_b198 N sE (fX35_define_b171 N sE n) l0 l1 l2 l3 l4 l5 l7 l8 q7.1 q7.2
        else
          (k_ok 34 h l0).bind fun _ =>
          (fX35_needExpanded N sE l0 h).bind fun q9 =>
          fX35_define_b198 N sE (fX35_define_b171 N sE n) l0 l1 l2 l3 l4 l5 l7 l8 q9.1 q9.2
theorem pX35_define_b171 {w : eW} {d : Nat} {dr : Nat} (hd : dr + 7 ≤ d + 1) (hdr : 12 ≤ dr) {N : Nat} {sE : Nat → Int32 → eH → Option (Unit × eH)} (hsE : ∀ a t0 h q, sE a t0 h = some q → wm w dr YX35_expand [.ref a, .int t0] h (e_is (e_rn c_V q))) : ∀ (n : Nat) l0 l1 l2 l3 l4 l5 l7 l8 h q, fX35_define_b171 N sE n l0 l1 l2 l3 l4 l5 l7 l8 h = some q → wp w (d + 1) YX35_define 171 [some (.ref l0), some (.int l1), some (.int l2), some (.int l3), some (.int l4), some (.int l5), none, some (.int l7), some (.int l8), none] [] h (e_is (e_rn c_V q)) := by
  intro n
  induction n with
  | zero => intro l0 l1 l2 l3 l4 l5 l7 l8 h q hf; simp [fX35_define_b171] at hf
  | succ n ih =>
    intro l0 l1 l2 l3 l4 l5 l7 l8 h q hf
    rw [fX35_define_b171] at hf
    refine w_aload_n dX35_define_171 rfl rfl ?_
    obtain ⟨x1, b2, hf⟩ := Option.bind_eq_some_iff.mp hf
    refine GX35_321 b2 dX35_define_172 rfl ?_
    refine w_if_ne 361 dX35_define_175 (by decide) (fun c3 => ?_) (fun c3 => ?_)
    · replace hf := (if_pos (show ¬ x1 = 0 from c3)).symm.trans hf
      exact (pX35_define_b361 hd hdr hsE hf).to ⟨rfl, rfl, rfl, rfl, rfl, rfl, trivial⟩
    · replace hf := (if_neg (show ¬ (¬ x1 = 0) from (fun z => z c3))).symm.trans hf
      refine w_iload dX35_define_178 rfl ?_
      refine w_if_le 361 dX35_define_180 (by decide) (fun c4 => ?_) (fun c4 => ?_)
      · replace hf := (if_pos (show l8 ≤ 0 from c4)).symm.trans hf
        exact (pX35_define_b361 hd hdr hsE hf).to ⟨rfl, rfl, rfl, rfl, rfl, rfl, trivial⟩
      · replace hf := (if_neg (show ¬ (l8 ≤ 0) from c4)).symm.trans hf
        refine w_iload_n dX35_define_183 rfl rfl ?_
        refine w_if_eq 194 dX35_define_184 (by decide) (fun c5 => ?_) (fun c5 => ?_)
        · replace hf := (if_pos (show l1 = 0 from c5)).symm.trans hf
          refine w_aload_n dX35_define_194 rfl rfl ?_
          obtain ⟨_, b6, hf⟩ := Option.bind_eq_some_iff.mp hf
          refine x_cnI hf (e_stV (Yc := YX35_need) (ci := 34) (av := []) (st := []) dX35_define_195 q5154 mX35_need rfl (k_ok_some b6).1 (k_ok_some b6).2) mX35_need.2.2.1 mX35_need.2.2.2.2.1 (Nat.le_of_ble_eq_true rfl) (Nat.le_of_ble_eq_true rfl) (fun q hq => pX35_need (by omega) hq) (fun q7 hf => ?_)
          exact (pX35_define_b198 hd hdr hsE ih hf).to ⟨rfl, rfl, rfl, rfl, rfl, rfl, rfl, rfl, trivial⟩
        · replace hf := (if_neg (show ¬ (l1 = 0) from c5)).symm.trans hf
          refine w_aload_n dX35_define_187 rfl rfl ?_
          obtain ⟨_, b8, hf⟩ := Option.bind_eq_some_iff.mp hf
          refine x_cnI hf (e_stV (Yc := YX35_needExpanded) (ci := 34) (av := []) (st := []) dX35_define_188 q5193 mX35_needExpanded rfl (k_ok_some b8).1 (k_ok_some b8).2) mX35_needExpanded.2.2.1 mX35_needExpanded.2.2.2.2.1 (Nat.le_of_ble_eq_true rfl) (Nat.le_of_ble_eq_true rfl) (fun q hq => pX35_needExpanded (by omega) hdr hsE hq) (fun q9 hf => ?_)
          refine w_goto 198 dX35_define_191 (by decide) ?_
          exact (pX35_define_b198 hd hdr hsE ih hf).to ⟨rfl, rfl, rfl, rfl, rfl, rfl, rfl, rfl, trivial⟩
def fX35_define_b162 (N : Nat) (sE : Nat → Int32 → eH → Option (Unit × eH)) (l0 : Nat) (l1 : Int32) (l2 : Int32) (l3 : Int32) (l4 : Int32) (l5 : Int32) (h : eH) : Option (Unit × eH) :=
  (g_I 34 h l0 35).bind fun x1 =>
  fX35_define_b171 N sE N l0 l1 l2 l3 l4 l5 x1 (1 : Int32) h
theorem pX35_define_b162 {w : eW} {d : Nat} {dr : Nat} (hd : dr + 7 ≤ d + 1) (hdr : 12 ≤ dr) {N : Nat} {sE : Nat → Int32 → eH → Option (Unit × eH)} (hsE : ∀ a t0 h q, sE a t0 h = some q → wm w dr YX35_expand [.ref a, .int t0] h (e_is (e_rn c_V q))) {l0 : Nat} {l1 : Int32} {l2 : Int32} {l3 : Int32} {l4 : Int32} {l5 : Int32} {h : eH} {q} (hf : fX35_define_b162 N sE l0 l1 l2 l3 l4 l5 h = some q) : wp w (d + 1) YX35_define 162 [some (.ref l0), some (.int l1), some (.int l2), some (.int l3), some (.int l4), some (.int l5), none, none, none, none] [] h (e_is (e_rn c_V q)) := by
  unfold fX35_define_b162 at hf
  refine w_aload_n dX35_define_162 rfl rfl ?_
  obtain ⟨x1, b2, hf⟩ := Option.bind_eq_some_iff.mp hf
  refine GX35_344 b2 dX35_define_163 rfl ?_
  refine w_istore dX35_define_166 (by decide) (ls' := [some (.ref l0), some (.int l1), some (.int l2), some (.int l3), some (.int l4), some (.int l5), none, some (.int x1), none, none]) rfl ?_
  refine w_iconst dX35_define_168 (v := 1) (by decide) ?_
  refine w_istore dX35_define_169 (by decide) (ls' := [some (.ref l0), some (.int l1), some (.int l2), some (.int l3), some (.int l4), some (.int l5), none, some (.int x1), some (.int (1 : Int32)), none]) rfl ?_
  exact (pX35_define_b171 hd hdr hsE N _ _ _ _ _ _ _ _ _ _ hf).to ⟨rfl, rfl, rfl, rfl, rfl, rfl, rfl, rfl, trivial⟩
def fX35_define_b47 (N : Nat) (sE : Nat → Int32 → eH → Option (Unit × eH)) : Nat → Nat → Int32 → Int32 → Int32 → Int32 → Int32 → Int32 → eH → Option (Unit × eH)
  | 0, _, _, _, _, _, _, _, _ => none
  | n + 1, l0, l1, l2, l3, l4, l5, l6, h =>
    (g_I 34 h l0 46).bind fun x1 =>
    if ¬ x1 = 0 then
      fX35_define_b162 N sE l0 l1 l2 l3 l4 l5 h
    else
      (fX35_isOf l6 (1 : Int32) h).bind fun q4 =>
      if ¬ q4.1 = 0 then
        fX35_define_b162 N sE l0 l1 l2 l3 l4 l5 q4.2
      else
        (fX35_isOf l6 (2 : Int32) q4.2).bind fun q6 =>
        if q6.1 = 0 then
          (fX35_isOf l6 (6 : Int32) q6.2).bind fun q8 =>
          if q8.1 = 0 then
            (k_ok 34 q8.2 l0).bind fun _ =>
            (fX35_keep l0 l6 q8.2).bind fun q11 =>
            fX35_define_b153 N sE (fX35_define_b47 N sE n) l0 l1 l2 l3 l4 l5 q11.2
          else
            (k_ok 34 q8.2 l0).bind fun _ =>
            (fX35_need N l0 q8.2).bind fun q13 =>
            (g_I 34 q13.2 l0 46).bind fun x14 =>
            if ¬ x14 = 0 then
              fX35_define_b134 N sE (fX35_define_b47 N sE n) l0 l1 l2 l3 l4 (l5 + (1 : Int32)) q13.2
            else
              (fX35_isDigit q13.1 q13.2).bind fun q17 =>
              if q17.1 = 0 then
                fX35_define_b128 N sE (fX35_define_b47 N sE n) l0 l1 l2 l3 l4 (l5 + (1 : Int32)) q17.2
              else
                if (q13.1 - q13.1 / (256 : Int32) * (256 : Int32)) = ((48 : Int32) + (l5 + (1 : Int32))) then
                  fX35_define_b134 N sE (fX35_define_b47 N sE n) l0 l1 l2 l3 l4 (l5 + (1 : Int32)) q17.2
                else
                  fX35_define_b128 N sE (fX35_define_b47 N sE n) l0 l1 l2 l3 l4 (l5 + (1 : Int32)) q17.2
        else
          (k_ok 34 q6.2 l0).bind fun _ =>
          (fX35_fail l0 (5 : Int32) q6.2).bind fun q21 =>
          fX35_define_b153 N sE (fX35_define_b47 N sE n) l0 l1 l2 l3 l4 l5 q21.2
theorem pX35_define_b47 {w : eW} {d : Nat} {dr : Nat} (hd : dr + 7 ≤ d + 1) (hdr : 12 ≤ dr) {N : Nat} {sE : Nat → Int32 → eH → Option (Unit × eH)} (hsE : ∀ a t0 h q, sE a t0 h = some q → wm w dr YX35_expand [.ref a, .int t0] h (e_is (e_rn c_V q))) : ∀ (n : Nat) l0 l1 l2 l3 l4 l5 l6 h q, fX35_define_b47 N sE n l0 l1 l2 l3 l4 l5 l6 h = some q → wp w (d + 1) YX35_define 47 [some (.ref l0), some (.int l1), some (.int l2), some (.int l3), some (.int l4), some (.int l5), some (.int l6), none, none, none] [] h (e_is (e_rn c_V q)) := by
  intro n
  induction n with
  | zero => intro l0 l1 l2 l3 l4 l5 l6 h q hf; simp [fX35_define_b47] at hf
  | succ n ih =>
    intro l0 l1 l2 l3 l4 l5 l6 h q hf
    rw [fX35_define_b47] at hf
    refine w_aload_n dX35_define_47 rfl rfl ?_
    obtain ⟨x1, b2, hf⟩ := Option.bind_eq_some_iff.mp hf
    refine GX35_321 b2 dX35_define_48 rfl ?_
    refine w_if_ne 162 dX35_define_51 (by decide) (fun c3 => ?_) (fun c3 => ?_)
    · replace hf := (if_pos (show ¬ x1 = 0 from c3)).symm.trans hf
      exact (pX35_define_b162 hd hdr hsE hf).to ⟨rfl, rfl, rfl, rfl, rfl, rfl, trivial⟩
    · replace hf := (if_neg (show ¬ (¬ x1 = 0) from (fun z => z c3))).symm.trans hf
      refine w_iload dX35_define_54 rfl ?_
      refine w_iconst dX35_define_56 (v := 1) (by decide) ?_
      refine x_cnI hf (e_stS (Yc := YX35_isOf) (av := [.int l6, .int (1 : Int32)]) (st := []) dX35_define_57 q5166 mX35_isOf) mX35_isOf.2.2.1 mX35_isOf.2.2.2.2.1 (Nat.le_of_ble_eq_true rfl) (Nat.le_of_ble_eq_true rfl) (fun q hq => pX35_isOf (by omega) hq) (fun q4 hf => ?_)
      refine w_if_ne 162 dX35_define_60 (by decide) (fun c5 => ?_) (fun c5 => ?_)
      · replace hf := (if_pos (show ¬ q4.1 = 0 from c5)).symm.trans hf
        exact (pX35_define_b162 hd hdr hsE hf).to ⟨rfl, rfl, rfl, rfl, rfl, rfl, trivial⟩
      · replace hf := (if_neg (show ¬ (¬ q4.1 = 0) from (fun z => z c5))).symm.trans hf
        refine w_iload dX35_define_63 rfl ?_
        refine w_iconst dX35_define_65 (v := 2) (by decide) ?_
        refine x_cnI hf (e_stS (Yc := YX35_isOf) (av := [.int l6, .int (2 : Int32)]) (st := []) dX35_define_66 q5166 mX35_isOf) mX35_isOf.2.2.1 mX35_isOf.2.2.2.2.1 (Nat.le_of_ble_eq_true rfl) (Nat.le_of_ble_eq_true rfl) (fun q hq => pX35_isOf (by omega) hq) (fun q6 hf => ?_)
        refine w_if_eq 80 dX35_define_69 (by decide) (fun c7 => ?_) (fun c7 => ?_)
        · replace hf := (if_pos (show q6.1 = 0 from c7)).symm.trans hf
          refine w_iload dX35_define_80 rfl ?_
          refine w_bipush dX35_define_82 (v := 6) (by decide) ?_
          refine x_cnI hf (e_stS (Yc := YX35_isOf) (av := [.int l6, .int (6 : Int32)]) (st := []) dX35_define_84 q5166 mX35_isOf) mX35_isOf.2.2.1 mX35_isOf.2.2.2.2.1 (Nat.le_of_ble_eq_true rfl) (Nat.le_of_ble_eq_true rfl) (fun q hq => pX35_isOf (by omega) hq) (fun q8 hf => ?_)
          refine w_if_eq 147 dX35_define_87 (by decide) (fun c9 => ?_) (fun c9 => ?_)
          · replace hf := (if_pos (show q8.1 = 0 from c9)).symm.trans hf
            refine w_aload_n dX35_define_147 rfl rfl ?_
            refine w_iload dX35_define_148 rfl ?_
            obtain ⟨_, b10, hf⟩ := Option.bind_eq_some_iff.mp hf
            refine x_cnV hf (e_stV (Yc := YX35_keep) (ci := 34) (av := [.int l6]) (st := []) dX35_define_150 q5930 mX35_keep rfl (k_ok_some b10).1 (k_ok_some b10).2) mX35_keep.2.2.1 mX35_keep.2.2.2.2.1 (Nat.le_of_ble_eq_true rfl) (Nat.le_of_ble_eq_true rfl) (fun q hq => pX35_keep (by omega) hq) (fun q11 hf => ?_)
            exact (pX35_define_b153 hd hdr hsE ih hf).to ⟨rfl, rfl, rfl, rfl, rfl, rfl, trivial⟩
          · replace hf := (if_neg (show ¬ (q8.1 = 0) from c9)).symm.trans hf
            refine w_aload_n dX35_define_90 rfl rfl ?_
            obtain ⟨_, b12, hf⟩ := Option.bind_eq_some_iff.mp hf
            refine x_cnI hf (e_stV (Yc := YX35_need) (ci := 34) (av := []) (st := []) dX35_define_91 q5154 mX35_need rfl (k_ok_some b12).1 (k_ok_some b12).2) mX35_need.2.2.1 mX35_need.2.2.2.2.1 (Nat.le_of_ble_eq_true rfl) (Nat.le_of_ble_eq_true rfl) (fun q hq => pX35_need (by omega) hq) (fun q13 hf => ?_)
            refine w_istore dX35_define_94 (by decide) (ls' := [some (.ref l0), some (.int l1), some (.int l2), some (.int l3), some (.int l4), some (.int l5), some (.int l6), some (.int q13.1), none, none]) rfl ?_
            refine w_iinc dX35_define_96 (v := (l5 + (1 : Int32))) rfl rfl (by decide) (ls' := [some (.ref l0), some (.int l1), some (.int l2), some (.int l3), some (.int l4), some (.int (l5 + (1 : Int32))), some (.int l6), some (.int q13.1), none, none]) rfl ?_
            refine w_aload_n dX35_define_99 rfl rfl ?_
            obtain ⟨x14, b15, hf⟩ := Option.bind_eq_some_iff.mp hf
            refine GX35_321 b15 dX35_define_100 rfl ?_
            refine w_if_ne 134 dX35_define_103 (by decide) (fun c16 => ?_) (fun c16 => ?_)
            · replace hf := (if_pos (show ¬ x14 = 0 from c16)).symm.trans hf
              exact (pX35_define_b134 hd hdr hsE ih hf).to ⟨rfl, rfl, rfl, rfl, rfl, rfl, trivial⟩
            · replace hf := (if_neg (show ¬ (¬ x14 = 0) from (fun z => z c16))).symm.trans hf
              refine w_iload dX35_define_106 rfl ?_
              refine x_cnI hf (e_stS (Yc := YX35_isDigit) (av := [.int q13.1]) (st := []) dX35_define_108 q5232 mX35_isDigit) mX35_isDigit.2.2.1 mX35_isDigit.2.2.2.2.1 (Nat.le_of_ble_eq_true rfl) (Nat.le_of_ble_eq_true rfl) (fun q hq => pX35_isDigit (by omega) hq) (fun q17 hf => ?_)
              refine w_if_eq 128 dX35_define_111 (by decide) (fun c18 => ?_) (fun c18 => ?_)
              · replace hf := (if_pos (show q17.1 = 0 from c18)).symm.trans hf
                exact (pX35_define_b128 hd hdr hsE ih hf).to ⟨rfl, rfl, rfl, rfl, rfl, rfl, trivial⟩
              · replace hf := (if_neg (show ¬ (q17.1 = 0) from c18)).symm.trans hf
                refine w_iload dX35_define_114 rfl ?_
                refine w_sipush dX35_define_116 (v := 256) (by decide) ?_
                refine w_irem dX35_define_119 (by decide) ?_
                refine w_bipush dX35_define_120 (v := 48) (by decide) ?_
                refine w_iload dX35_define_122 rfl ?_
                refine w_iadd dX35_define_124 ?_
                refine w_icmp_eq 134 dX35_define_125 (by decide) (fun c19 => ?_) (fun c19 => ?_)
                · replace hf := (if_pos (show (q13.1 - q13.1 / (256 : Int32) * (256 : Int32)) = ((48 : Int32) + (l5 + (1 : Int32))) from c19)).symm.trans hf
                  exact (pX35_define_b134 hd hdr hsE ih hf).to ⟨rfl, rfl, rfl, rfl, rfl, rfl, trivial⟩
                · replace hf := (if_neg (show ¬ ((q13.1 - q13.1 / (256 : Int32) * (256 : Int32)) = ((48 : Int32) + (l5 + (1 : Int32)))) from c19)).symm.trans hf
                  exact (pX35_define_b128 hd hdr hsE ih hf).to ⟨rfl, rfl, rfl, rfl, rfl, rfl, trivial⟩
        · replace hf := (if_neg (show ¬ (q6.1 = 0) from c7)).symm.trans hf
          refine w_aload_n dX35_define_72 rfl rfl ?_
          refine w_iconst dX35_define_73 (v := 5) (by decide) ?_
          obtain ⟨_, b20, hf⟩ := Option.bind_eq_some_iff.mp hf
          refine x_cnV hf (e_stV (Yc := YX35_fail) (ci := 34) (av := [.int (5 : Int32)]) (st := []) dX35_define_74 q5109 mX35_fail rfl (k_ok_some b20).1 (k_ok_some b20).2) mX35_fail.2.2.1 mX35_fail.2.2.2.2.1 (Nat.le_of_ble_eq_true rfl) (Nat.le_of_ble_eq_true rfl) (fun q hq => pX35_fail (by omega) hq) (fun q21 hf => ?_)
          refine w_goto 153 dX35_define_77 (by decide) ?_
          exact (pX35_define_b153 hd hdr hsE ih hf).to ⟨rfl, rfl, rfl, rfl, rfl, rfl, trivial⟩
def fX35_define_b32 (N : Nat) (sE : Nat → Int32 → eH → Option (Unit × eH)) (l0 : Nat) (l1 : Int32) (l2 : Int32) (l3 : Int32) (h : eH) : Option (Unit × eH) :=
  (g_I 34 h l0 35).bind fun x1 =>
  (k_ok 34 h l0).bind fun _ =>
  (fX35_need N l0 h).bind fun q4 =>
  fX35_define_b47 N sE N l0 l1 l2 l3 x1 (0 : Int32) q4.1 q4.2
theorem pX35_define_b32 {w : eW} {d : Nat} {dr : Nat} (hd : dr + 7 ≤ d + 1) (hdr : 12 ≤ dr) {N : Nat} {sE : Nat → Int32 → eH → Option (Unit × eH)} (hsE : ∀ a t0 h q, sE a t0 h = some q → wm w dr YX35_expand [.ref a, .int t0] h (e_is (e_rn c_V q))) {l0 : Nat} {l1 : Int32} {l2 : Int32} {l3 : Int32} {h : eH} {q} (hf : fX35_define_b32 N sE l0 l1 l2 l3 h = some q) : wp w (d + 1) YX35_define 32 [some (.ref l0), some (.int l1), some (.int l2), some (.int l3), none, none, none, none, none, none] [] h (e_is (e_rn c_V q)) := by
  unfold fX35_define_b32 at hf
  refine w_aload_n dX35_define_32 rfl rfl ?_
  obtain ⟨x1, b2, hf⟩ := Option.bind_eq_some_iff.mp hf
  refine GX35_344 b2 dX35_define_33 rfl ?_
  refine w_istore dX35_define_36 (by decide) (ls' := [some (.ref l0), some (.int l1), some (.int l2), some (.int l3), some (.int x1), none, none, none, none, none]) rfl ?_
  refine w_iconst dX35_define_38 (v := 0) (by decide) ?_
  refine w_istore dX35_define_39 (by decide) (ls' := [some (.ref l0), some (.int l1), some (.int l2), some (.int l3), some (.int x1), some (.int (0 : Int32)), none, none, none, none]) rfl ?_
  refine w_aload_n dX35_define_41 rfl rfl ?_
  obtain ⟨_, b3, hf⟩ := Option.bind_eq_some_iff.mp hf
  refine x_cnI hf (e_stV (Yc := YX35_need) (ci := 34) (av := []) (st := []) dX35_define_42 q5154 mX35_need rfl (k_ok_some b3).1 (k_ok_some b3).2) mX35_need.2.2.1 mX35_need.2.2.2.2.1 (Nat.le_of_ble_eq_true rfl) (Nat.le_of_ble_eq_true rfl) (fun q hq => pX35_need (by omega) hq) (fun q4 hf => ?_)
  refine w_istore dX35_define_45 (by decide) (ls' := [some (.ref l0), some (.int l1), some (.int l2), some (.int l3), some (.int x1), some (.int (0 : Int32)), some (.int q4.1), none, none, none]) rfl ?_
  exact (pX35_define_b47 hd hdr hsE N _ _ _ _ _ _ _ _ _ hf).to ⟨rfl, rfl, rfl, rfl, rfl, rfl, rfl, trivial⟩
def fX35_define (N : Nat) (sE : Nat → Int32 → eH → Option (Unit × eH)) (this : Nat) (p0 : Int32) (p1 : Int32) (h : eH) : Option (Unit × eH) :=
  (k_ok 34 h this).bind fun _ =>
  (fX35_target N this h).bind fun q2 =>
  (g_I 34 q2.2 this 46).bind fun x3 =>
  if ¬ x3 = 0 then
    fX35_define_b32 N sE this p0 p1 q2.1 q2.2
  else
    (g_I 34 q2.2 this 35).bind fun x6 =>
    (g_I 34 q2.2 this 30).bind fun x8 =>
    if (x6 + x8) < (10000 : Int32) then
      fX35_define_b32 N sE this p0 p1 q2.1 q2.2
    else
      (k_ok 34 q2.2 this).bind fun _ =>
      (fX35_fail this (2 : Int32) q2.2).bind fun q12 =>
      fX35_define_b32 N sE this p0 p1 q2.1 q12.2
theorem pX35_define {w : eW} {d : Nat} {dr : Nat} (hd : dr + 7 ≤ d) (hdr : 12 ≤ dr) {N : Nat} {sE : Nat → Int32 → eH → Option (Unit × eH)} (hsE : ∀ a t0 h q, sE a t0 h = some q → wm w dr YX35_expand [.ref a, .int t0] h (e_is (e_rn c_V q))) {this : Nat} {p0 : Int32} {p1 : Int32} {h : eH} {q} (hf : fX35_define N sE this p0 p1 h = some q) : wm w d YX35_define [.ref this, .int p0, .int p1] h (e_is (e_rn c_V q)) := by
  obtain ⟨d, rfl⟩ : ∃ e, d = e + 1 := ⟨d - 1, by omega⟩
  show wp w (d + 1) YX35_define 0 [some (.ref this), some (.int p0), some (.int p1), none, none, none, none, none, none, none] [] h _
  unfold fX35_define at hf
  refine w_aload_n dX35_define_0 rfl rfl ?_
  obtain ⟨_, b1, hf⟩ := Option.bind_eq_some_iff.mp hf
  refine x_cnI hf (e_stV (Yc := YX35_target) (ci := 34) (av := []) (st := []) dX35_define_1 q5926 mX35_target rfl (k_ok_some b1).1 (k_ok_some b1).2) mX35_target.2.2.1 mX35_target.2.2.2.2.1 (Nat.le_of_ble_eq_true rfl) (Nat.le_of_ble_eq_true rfl) (fun q hq => pX35_target (by omega) hq) (fun q2 hf => ?_)
  refine w_istore_n dX35_define_4 rfl (by decide) (ls' := [some (.ref this), some (.int p0), some (.int p1), some (.int q2.1), none, none, none, none, none, none]) rfl ?_
  refine w_aload_n dX35_define_5 rfl rfl ?_
  obtain ⟨x3, b4, hf⟩ := Option.bind_eq_some_iff.mp hf
  refine GX35_321 b4 dX35_define_6 rfl ?_
  refine w_if_ne 32 dX35_define_9 (by decide) (fun c5 => ?_) (fun c5 => ?_)
  · replace hf := (if_pos (show ¬ x3 = 0 from c5)).symm.trans hf
    exact (pX35_define_b32 hd hdr hsE hf).to ⟨rfl, rfl, rfl, rfl, trivial⟩
  · replace hf := (if_neg (show ¬ (¬ x3 = 0) from (fun z => z c5))).symm.trans hf
    refine w_aload_n dX35_define_12 rfl rfl ?_
    obtain ⟨x6, b7, hf⟩ := Option.bind_eq_some_iff.mp hf
    refine GX35_344 b7 dX35_define_13 rfl ?_
    refine w_aload_n dX35_define_16 rfl rfl ?_
    obtain ⟨x8, b9, hf⟩ := Option.bind_eq_some_iff.mp hf
    refine GX35_341 b9 dX35_define_17 rfl ?_
    refine w_iadd dX35_define_20 ?_
    refine w_sipush dX35_define_21 (v := 10000) (by decide) ?_
    refine w_icmp_lt 32 dX35_define_24 (by decide) (fun c10 => ?_) (fun c10 => ?_)
    · replace hf := (if_pos (show (x6 + x8) < (10000 : Int32) from c10)).symm.trans hf
      exact (pX35_define_b32 hd hdr hsE hf).to ⟨rfl, rfl, rfl, rfl, trivial⟩
    · replace hf := (if_neg (show ¬ ((x6 + x8) < (10000 : Int32)) from c10)).symm.trans hf
      refine w_aload_n dX35_define_27 rfl rfl ?_
      refine w_iconst dX35_define_28 (v := 2) (by decide) ?_
      obtain ⟨_, b11, hf⟩ := Option.bind_eq_some_iff.mp hf
      refine x_cnV hf (e_stV (Yc := YX35_fail) (ci := 34) (av := [.int (2 : Int32)]) (st := []) dX35_define_29 q5109 mX35_fail rfl (k_ok_some b11).1 (k_ok_some b11).2) mX35_fail.2.2.1 mX35_fail.2.2.2.2.1 (Nat.le_of_ble_eq_true rfl) (Nat.le_of_ble_eq_true rfl) (fun q hq => pX35_fail (by omega) hq) (fun q12 hf => ?_)
      exact (pX35_define_b32 hd hdr hsE hf).to ⟨rfl, rfl, rfl, rfl, trivial⟩
