set_option maxRecDepth 100000
set_option maxHeartbeats 4000000
theorem q4226 : (Jvm.Cond.fieldLink "TypeHouseModel$Breaker" (250 : Nat) "TypeHouseModel$Breaker" "thrown" "I") ∈ lw_all := lw_g (lw_at lw_m16 201 rfl) rfl
theorem q4227 : (Jvm.Cond.fieldLinkNest "TypeHouseModel" (926 : Nat) "TypeHouseModel$Breaker" "thrown" "I" "TypeHouseModel") ∈ lw_tbl := lw_at lw_m16 202 rfl
theorem q4272 : (Jvm.Cond.fieldLink "TypeHouseModel$Breaker" (232 : Nat) "TypeHouseModel$Breaker" "brokenNodes" "I") ∈ lw_all := lw_g (lw_at lw_m17 7 rfl) rfl
theorem q4273 : (Jvm.Cond.fieldLink "TypeHouseModel$Breaker" (235 : Nat) "TypeHouseModel$Breaker" "brokenLines" "I") ∈ lw_all := lw_g (lw_at lw_m17 8 rfl) rfl
theorem q4275 : (Jvm.Cond.fieldLinkNest "TypeHouseModel" (930 : Nat) "TypeHouseModel$Breaker" "lineEnd" "[I" "TypeHouseModel") ∈ lw_tbl := lw_at lw_m17 10 rfl
theorem q4277 : (Jvm.Cond.fieldLinkNest "TypeHouseModel" (945 : Nat) "TypeHouseModel$Breaker" "lineFirst" "[I" "TypeHouseModel") ∈ lw_tbl := lw_at lw_m17 12 rfl
theorem q4622 : (Jvm.Cond.fieldLink "TypeHouseModel" (651 : Nat) "TypeHouseModel" "signed" "I") ∈ lw_all := lw_g (lw_at lw_m18 117 rfl) rfl
theorem q4623 : (Jvm.Cond.fieldLink "TypeHouseModel" (654 : Nat) "TypeHouseModel" "less" "Z") ∈ lw_all := lw_g (lw_at lw_m18 118 rfl) rfl
theorem q4629 : (Jvm.Cond.fieldLink "TypeHouseModel" (936 : Nat) "TypeHouseModel" "lineItemCount" "I") ∈ lw_all := lw_g (lw_at lw_m18 124 rfl) rfl
theorem q5077 : (Jvm.Cond.methodLink "TypeHouseModel" (487 : Nat) ({ cls := "TypeHouseModel", name := "getExpanded", desc := "()I" } : Jvm.MethodName)) ∈ lw_all := lw_g (lw_at lw_m20 92 rfl) rfl
theorem q5079 : (Jvm.Cond.instanceMethod ({ cls := "TypeHouseModel", name := "getExpanded", desc := "()I" } : Jvm.MethodName)) ∈ lw_all := lw_g (lw_at lw_m20 94 rfl) rfl
theorem q5080 : (Jvm.Cond.code ({ cls := "TypeHouseModel", name := "getExpanded", desc := "()I" } : Jvm.MethodName) prog_37_method_38_code (2 : Nat) (Option.some Jvm.ClassFile.FieldType.int)) ∈ lw_all := lw_g (lw_at lw_m20 95 rfl) rfl
theorem q5119 : (Jvm.Cond.methodLink "TypeHouseModel" (481 : Nat) ({ cls := "TypeHouseModel", name := "isExpandable", desc := "(I)Z" } : Jvm.MethodName)) ∈ lw_all := lw_g (lw_at lw_m20 134 rfl) rfl
theorem q5121 : (Jvm.Cond.instanceMethod ({ cls := "TypeHouseModel", name := "isExpandable", desc := "(I)Z" } : Jvm.MethodName)) ∈ lw_all := lw_g (lw_at lw_m20 136 rfl) rfl
theorem q5122 : (Jvm.Cond.code ({ cls := "TypeHouseModel", name := "isExpandable", desc := "(I)Z" } : Jvm.MethodName) prog_37_method_36_code (3 : Nat) (Option.some Jvm.ClassFile.FieldType.boolean)) ∈ lw_all := lw_g (lw_at lw_m20 137 rfl) rfl
theorem q5142 : (Jvm.Cond.methodLink "TypeHouseModel" (484 : Nat) ({ cls := "TypeHouseModel", name := "expand", desc := "(I)V" } : Jvm.MethodName)) ∈ lw_all := lw_g (lw_at lw_m20 157 rfl) rfl
theorem q5144 : (Jvm.Cond.instanceMethod ({ cls := "TypeHouseModel", name := "expand", desc := "(I)V" } : Jvm.MethodName)) ∈ lw_all := lw_g (lw_at lw_m20 159 rfl) rfl
theorem q5145 : (Jvm.Cond.code ({ cls := "TypeHouseModel", name := "expand", desc := "(I)V" } : Jvm.MethodName) prog_37_method_42_code (3 : Nat) (Option.none : Option Jvm.ClassFile.FieldType)) ∈ lw_all := lw_g (lw_at lw_m20 160 rfl) rfl
theorem q5193 : (Jvm.Cond.methodLink "TypeHouseModel" (490 : Nat) ({ cls := "TypeHouseModel", name := "needExpanded", desc := "()I" } : Jvm.MethodName)) ∈ lw_all := lw_g (lw_at lw_m20 208 rfl) rfl
theorem q5195 : (Jvm.Cond.instanceMethod ({ cls := "TypeHouseModel", name := "needExpanded", desc := "()I" } : Jvm.MethodName)) ∈ lw_all := lw_g (lw_at lw_m20 210 rfl) rfl
theorem q5196 : (Jvm.Cond.code ({ cls := "TypeHouseModel", name := "needExpanded", desc := "()I" } : Jvm.MethodName) prog_37_method_39_code (2 : Nat) (Option.some Jvm.ClassFile.FieldType.int)) ∈ lw_all := lw_g (lw_at lw_m20 211 rfl) rfl
theorem q5227 : (Jvm.Cond.instanceMethod ({ cls := "TypeHouseModel", name := "signs", desc := "()V" } : Jvm.MethodName)) ∈ lw_all := lw_g (lw_at lw_m21 2 rfl) rfl
theorem q5228 : (Jvm.Cond.code ({ cls := "TypeHouseModel", name := "signs", desc := "()V" } : Jvm.MethodName) prog_37_method_82_code (3 : Nat) (Option.none : Option Jvm.ClassFile.FieldType)) ∈ lw_all := lw_g (lw_at lw_m21 3 rfl) rfl
theorem q5229 : (Jvm.Cond.methodLink "TypeHouseModel" (610 : Nat) ({ cls := "TypeHouseModel", name := "is", desc := "(III)Z" } : Jvm.MethodName)) ∈ lw_all := lw_g (lw_at lw_m21 4 rfl) rfl
theorem q5230 : (Jvm.Cond.static ({ cls := "TypeHouseModel", name := "is", desc := "(III)Z" } : Jvm.MethodName)) ∈ lw_all := lw_g (lw_at lw_m21 5 rfl) rfl
theorem q5231 : (Jvm.Cond.code ({ cls := "TypeHouseModel", name := "is", desc := "(III)Z" } : Jvm.MethodName) prog_37_method_29_code (3 : Nat) (Option.some Jvm.ClassFile.FieldType.boolean)) ∈ lw_all := lw_g (lw_at lw_m21 6 rfl) rfl
theorem q5233 : (Jvm.Cond.static ({ cls := "TypeHouseModel", name := "isDigit", desc := "(I)Z" } : Jvm.MethodName)) ∈ lw_all := lw_g (lw_at lw_m21 8 rfl) rfl
theorem q5234 : (Jvm.Cond.code ({ cls := "TypeHouseModel", name := "isDigit", desc := "(I)Z" } : Jvm.MethodName) prog_37_method_78_code (1 : Nat) (Option.some Jvm.ClassFile.FieldType.boolean)) ∈ lw_all := lw_g (lw_at lw_m21 9 rfl) rfl
theorem q5248 : (Jvm.Cond.instanceMethod ({ cls := "TypeHouseModel", name := "dropSpace", desc := "()V" } : Jvm.MethodName)) ∈ lw_all := lw_g (lw_at lw_m21 23 rfl) rfl
theorem q5249 : (Jvm.Cond.code ({ cls := "TypeHouseModel", name := "dropSpace", desc := "()V" } : Jvm.MethodName) prog_37_method_79_code (2 : Nat) (Option.none : Option Jvm.ClassFile.FieldType)) ∈ lw_all := lw_g (lw_at lw_m21 24 rfl) rfl
theorem q5254 : (Jvm.Cond.methodLink "TypeHouseModel" (621 : Nat) ({ cls := "TypeHouseModel", name := "primitiveOf", desc := "(I)I" } : Jvm.MethodName)) ∈ lw_all := lw_g (lw_at lw_m21 29 rfl) rfl
theorem q5256 : (Jvm.Cond.instanceMethod ({ cls := "TypeHouseModel", name := "primitiveOf", desc := "(I)I" } : Jvm.MethodName)) ∈ lw_all := lw_g (lw_at lw_m21 31 rfl) rfl
theorem q5257 : (Jvm.Cond.code ({ cls := "TypeHouseModel", name := "primitiveOf", desc := "(I)I" } : Jvm.MethodName) prog_37_method_65_code (3 : Nat) (Option.some Jvm.ClassFile.FieldType.int)) ∈ lw_all := lw_g (lw_at lw_m21 32 rfl) rfl
theorem q5275 : (Jvm.Cond.methodLink "TypeHouseModel" (640 : Nat) ({ cls := "TypeHouseModel", name := "at", desc := "(I)I" } : Jvm.MethodName)) ∈ lw_all := lw_g (lw_at lw_m21 50 rfl) rfl
theorem q5281 : (Jvm.Cond.instanceMethod ({ cls := "TypeHouseModel", name := "hasLength", desc := "(I)Z" } : Jvm.MethodName)) ∈ lw_all := lw_g (lw_at lw_m21 56 rfl) rfl
theorem q5282 : (Jvm.Cond.code ({ cls := "TypeHouseModel", name := "hasLength", desc := "(I)Z" } : Jvm.MethodName) prog_37_method_70_code (3 : Nat) (Option.some Jvm.ClassFile.FieldType.boolean)) ∈ lw_all := lw_g (lw_at lw_m21 57 rfl) rfl
theorem q5283 : (Jvm.Cond.methodLink "TypeHouseModel" (624 : Nat) ({ cls := "TypeHouseModel", name := "isLength", desc := "(I)Z" } : Jvm.MethodName)) ∈ lw_all := lw_g (lw_at lw_m21 58 rfl) rfl
theorem q5284 : (Jvm.Cond.static ({ cls := "TypeHouseModel", name := "isLength", desc := "(I)Z" } : Jvm.MethodName)) ∈ lw_all := lw_g (lw_at lw_m21 59 rfl) rfl
theorem q5285 : (Jvm.Cond.code ({ cls := "TypeHouseModel", name := "isLength", desc := "(I)Z" } : Jvm.MethodName) prog_37_method_67_code (1 : Nat) (Option.some Jvm.ClassFile.FieldType.boolean)) ∈ lw_all := lw_g (lw_at lw_m21 60 rfl) rfl
theorem q5286 : (Jvm.Cond.methodLink "TypeHouseModel" (627 : Nat) ({ cls := "TypeHouseModel", name := "isOfBox", desc := "(I)Z" } : Jvm.MethodName)) ∈ lw_all := lw_g (lw_at lw_m21 61 rfl) rfl
theorem q5287 : (Jvm.Cond.static ({ cls := "TypeHouseModel", name := "isOfBox", desc := "(I)Z" } : Jvm.MethodName)) ∈ lw_all := lw_g (lw_at lw_m21 62 rfl) rfl
theorem q5288 : (Jvm.Cond.code ({ cls := "TypeHouseModel", name := "isOfBox", desc := "(I)Z" } : Jvm.MethodName) prog_37_method_69_code (1 : Nat) (Option.some Jvm.ClassFile.FieldType.boolean)) ∈ lw_all := lw_g (lw_at lw_m21 63 rfl) rfl
theorem q5291 : (Jvm.Cond.instanceMethod ({ cls := "TypeHouseModel", name := "hasGlue", desc := "(I)Z" } : Jvm.MethodName)) ∈ lw_all := lw_g (lw_at lw_m21 66 rfl) rfl
theorem q5292 : (Jvm.Cond.code ({ cls := "TypeHouseModel", name := "hasGlue", desc := "(I)Z" } : Jvm.MethodName) prog_37_method_71_code (2 : Nat) (Option.some Jvm.ClassFile.FieldType.boolean)) ∈ lw_all := lw_g (lw_at lw_m21 67 rfl) rfl
theorem q5293 : (Jvm.Cond.methodLink "TypeHouseModel" (630 : Nat) ({ cls := "TypeHouseModel", name := "isGlue", desc := "(I)Z" } : Jvm.MethodName)) ∈ lw_all := lw_g (lw_at lw_m21 68 rfl) rfl
theorem q5294 : (Jvm.Cond.static ({ cls := "TypeHouseModel", name := "isGlue", desc := "(I)Z" } : Jvm.MethodName)) ∈ lw_all := lw_g (lw_at lw_m21 69 rfl) rfl
theorem q5295 : (Jvm.Cond.code ({ cls := "TypeHouseModel", name := "isGlue", desc := "(I)Z" } : Jvm.MethodName) prog_37_method_68_code (1 : Nat) (Option.some Jvm.ClassFile.FieldType.boolean)) ∈ lw_all := lw_g (lw_at lw_m21 70 rfl) rfl
theorem q5298 : (Jvm.Cond.instanceMethod ({ cls := "TypeHouseModel", name := "lengthOf", desc := "(I)I" } : Jvm.MethodName)) ∈ lw_all := lw_g (lw_at lw_m21 73 rfl) rfl
theorem q5299 : (Jvm.Cond.code ({ cls := "TypeHouseModel", name := "lengthOf", desc := "(I)I" } : Jvm.MethodName) prog_37_method_77_code (4 : Nat) (Option.some Jvm.ClassFile.FieldType.int)) ∈ lw_all := lw_g (lw_at lw_m21 74 rfl) rfl
theorem q5345 : (Jvm.Cond.constantLong "TypeHouseModel" (672 : Nat) (10000 : Int64)) ∈ lw_all := lw_g (lw_at lw_m21 120 rfl) rfl
theorem q5365 : (Jvm.Cond.methodLink "TypeHouseModel" (607 : Nat) ({ cls := "TypeHouseModel", name := "needExpandedNoSpace", desc := "()I" } : Jvm.MethodName)) ∈ lw_all := lw_g (lw_at lw_m21 140 rfl) rfl
theorem q5367 : (Jvm.Cond.instanceMethod ({ cls := "TypeHouseModel", name := "needExpandedNoSpace", desc := "()I" } : Jvm.MethodName)) ∈ lw_all := lw_g (lw_at lw_m21 142 rfl) rfl
theorem q5368 : (Jvm.Cond.code ({ cls := "TypeHouseModel", name := "needExpandedNoSpace", desc := "()I" } : Jvm.MethodName) prog_37_method_40_code (2 : Nat) (Option.some Jvm.ClassFile.FieldType.int)) ∈ lw_all := lw_g (lw_at lw_m21 143 rfl) rfl
theorem q5431 : (Jvm.Cond.instanceMethod ({ cls := "TypeHouseModel", name := "compare", desc := "()Z" } : Jvm.MethodName)) ∈ lw_all := lw_g (lw_at lw_m21 206 rfl) rfl
theorem q5432 : (Jvm.Cond.code ({ cls := "TypeHouseModel", name := "compare", desc := "()Z" } : Jvm.MethodName) prog_37_method_60_code (6 : Nat) (Option.some Jvm.ClassFile.FieldType.boolean)) ∈ lw_all := lw_g (lw_at lw_m21 207 rfl) rfl
theorem q5736 : (Jvm.Cond.instanceMethod ({ cls := "TypeHouseModel", name := "closeBrace", desc := "()V" } : Jvm.MethodName)) ∈ lw_all := lw_g (lw_at lw_m23 31 rfl) rfl
theorem q5737 : (Jvm.Cond.code ({ cls := "TypeHouseModel", name := "closeBrace", desc := "()V" } : Jvm.MethodName) prog_37_method_165_code (1 : Nat) (Option.none : Option Jvm.ClassFile.FieldType)) ∈ lw_all := lw_g (lw_at lw_m23 32 rfl) rfl
theorem q5738 : (Jvm.Cond.methodLink "TypeHouseModel" (1133 : Nat) ({ cls := "TypeHouseModel", name := "closeBox", desc := "()V" } : Jvm.MethodName)) ∈ lw_all := lw_g (lw_at lw_m23 33 rfl) rfl
theorem q5740 : (Jvm.Cond.instanceMethod ({ cls := "TypeHouseModel", name := "closeBox", desc := "()V" } : Jvm.MethodName)) ∈ lw_all := lw_g (lw_at lw_m23 35 rfl) rfl
theorem q5741 : (Jvm.Cond.code ({ cls := "TypeHouseModel", name := "closeBox", desc := "()V" } : Jvm.MethodName) prog_37_method_166_code (4 : Nat) (Option.none : Option Jvm.ClassFile.FieldType)) ∈ lw_all := lw_g (lw_at lw_m23 36 rfl) rfl
theorem q5742 : (Jvm.Cond.methodLink "TypeHouseModel" (1136 : Nat) ({ cls := "TypeHouseModel", name := "endParagraph", desc := "()V" } : Jvm.MethodName)) ∈ lw_all := lw_g (lw_at lw_m23 37 rfl) rfl
theorem q5744 : (Jvm.Cond.instanceMethod ({ cls := "TypeHouseModel", name := "endParagraph", desc := "()V" } : Jvm.MethodName)) ∈ lw_all := lw_g (lw_at lw_m23 39 rfl) rfl
theorem q5745 : (Jvm.Cond.code ({ cls := "TypeHouseModel", name := "endParagraph", desc := "()V" } : Jvm.MethodName) prog_37_method_127_code (6 : Nat) (Option.none : Option Jvm.ClassFile.FieldType)) ∈ lw_all := lw_g (lw_at lw_m23 40 rfl) rfl
theorem q5746 : (Jvm.Cond.methodLink "TypeHouseModel" (920 : Nat) ({ cls := "TypeHouseModel", name := "tell", desc := "(I)V" } : Jvm.MethodName)) ∈ lw_all := lw_g (lw_at lw_m23 41 rfl) rfl
theorem q5764 : (Jvm.Cond.methodLink "TypeHouseModel" (923 : Nat) ({ cls := "TypeHouseModel$Breaker", name := "breakUp", desc := "()I" } : Jvm.MethodName)) ∈ lw_all := lw_g (lw_at lw_m23 59 rfl) rfl
theorem q5765 : (Jvm.Cond.instanceMethod ({ cls := "TypeHouseModel$Breaker", name := "breakUp", desc := "()I" } : Jvm.MethodName)) ∈ lw_all := lw_g (lw_at lw_m23 60 rfl) rfl
theorem q5766 : (Jvm.Cond.selects "TypeHouseModel$Breaker" ({ cls := "TypeHouseModel$Breaker", name := "breakUp", desc := "()I" } : Jvm.MethodName) ({ cls := "TypeHouseModel$Breaker", name := "breakUp", desc := "()I" } : Jvm.MethodName)) ∈ lw_all := lw_g (lw_at lw_m23 61 rfl) rfl
theorem q5767 : (Jvm.Cond.code ({ cls := "TypeHouseModel$Breaker", name := "breakUp", desc := "()I" } : Jvm.MethodName) prog_38_method_27_code (14 : Nat) (Option.some Jvm.ClassFile.FieldType.int)) ∈ lw_all := lw_g (lw_at lw_m23 62 rfl) rfl
theorem q5768 : (Jvm.Cond.methodLink "TypeHouseModel$Breaker" (246 : Nat) ({ cls := "TypeHouseModel$Breaker", name := "fitsInSizes", desc := "()Z" } : Jvm.MethodName)) ∈ lw_all := lw_g (lw_at lw_m23 63 rfl) rfl
theorem q5781 : (Jvm.Cond.methodLink "TypeHouseModel$Breaker" (253 : Nat) ({ cls := "TypeHouseModel$Breaker", name := "append", desc := "(IIIIIII)I" } : Jvm.MethodName)) ∈ lw_all := lw_g (lw_at lw_m23 76 rfl) rfl
theorem q5782 : (Jvm.Cond.methodLink "TypeHouseModel$Breaker" (257 : Nat) ({ cls := "TypeHouseModel$Breaker", name := "sumUp", desc := "()V" } : Jvm.MethodName)) ∈ lw_all := lw_g (lw_at lw_m23 77 rfl) rfl
theorem q5786 : (Jvm.Cond.methodLink "TypeHouseModel$Breaker" (260 : Nat) ({ cls := "TypeHouseModel$Breaker", name := "make", desc := "()Z" } : Jvm.MethodName)) ∈ lw_all := lw_g (lw_at lw_m23 81 rfl) rfl
theorem q5856 : (Jvm.Cond.methodLink "TypeHouseModel$Breaker" (263 : Nat) ({ cls := "TypeHouseModel$Breaker", name := "choose", desc := "()I" } : Jvm.MethodName)) ∈ lw_all := lw_g (lw_at lw_m23 151 rfl) rfl
theorem q5858 : (Jvm.Cond.instanceMethod ({ cls := "TypeHouseModel$Breaker", name := "choose", desc := "()I" } : Jvm.MethodName)) ∈ lw_all := lw_g (lw_at lw_m23 153 rfl) rfl
theorem q5859 : (Jvm.Cond.code ({ cls := "TypeHouseModel$Breaker", name := "choose", desc := "()I" } : Jvm.MethodName) prog_38_method_23_code (8 : Nat) (Option.some Jvm.ClassFile.FieldType.int)) ∈ lw_all := lw_g (lw_at lw_m23 154 rfl) rfl
theorem q5860 : (Jvm.Cond.methodLink "TypeHouseModel$Breaker" (225 : Nat) ({ cls := "TypeHouseModel$Breaker", name := "isLess", desc := "(II)Z" } : Jvm.MethodName)) ∈ lw_all := lw_g (lw_at lw_m23 155 rfl) rfl
theorem q5864 : (Jvm.Cond.methodLink "TypeHouseModel$Breaker" (228 : Nat) ({ cls := "TypeHouseModel$Breaker", name := "apart", desc := "(II)I" } : Jvm.MethodName)) ∈ lw_all := lw_g (lw_at lw_m23 159 rfl) rfl
theorem q5867 : (Jvm.Cond.methodLink "TypeHouseModel$Breaker" (267 : Nat) ({ cls := "TypeHouseModel$Breaker", name := "tell", desc := "(I)I" } : Jvm.MethodName)) ∈ lw_all := lw_g (lw_at lw_m23 162 rfl) rfl
theorem q5869 : (Jvm.Cond.instanceMethod ({ cls := "TypeHouseModel$Breaker", name := "tell", desc := "(I)I" } : Jvm.MethodName)) ∈ lw_all := lw_g (lw_at lw_m23 164 rfl) rfl
theorem q5870 : (Jvm.Cond.code ({ cls := "TypeHouseModel$Breaker", name := "tell", desc := "(I)I" } : Jvm.MethodName) prog_38_method_24_code (4 : Nat) (Option.some Jvm.ClassFile.FieldType.int)) ∈ lw_all := lw_g (lw_at lw_m23 165 rfl) rfl
theorem q5871 : (Jvm.Cond.methodLink "TypeHouseModel" (927 : Nat) ({ cls := "TypeHouseModel$Breaker", name := "nodes", desc := "()I" } : Jvm.MethodName)) ∈ lw_all := lw_g (lw_at lw_m23 166 rfl) rfl
theorem q5872 : (Jvm.Cond.instanceMethod ({ cls := "TypeHouseModel$Breaker", name := "nodes", desc := "()I" } : Jvm.MethodName)) ∈ lw_all := lw_g (lw_at lw_m23 167 rfl) rfl
theorem q5873 : (Jvm.Cond.selects "TypeHouseModel$Breaker" ({ cls := "TypeHouseModel$Breaker", name := "nodes", desc := "()I" } : Jvm.MethodName) ({ cls := "TypeHouseModel$Breaker", name := "nodes", desc := "()I" } : Jvm.MethodName)) ∈ lw_all := lw_g (lw_at lw_m23 168 rfl) rfl
theorem q5874 : (Jvm.Cond.code ({ cls := "TypeHouseModel$Breaker", name := "nodes", desc := "()I" } : Jvm.MethodName) prog_38_method_28_code (1 : Nat) (Option.some Jvm.ClassFile.FieldType.int)) ∈ lw_all := lw_g (lw_at lw_m23 169 rfl) rfl
theorem q5875 : (Jvm.Cond.methodLink "TypeHouseModel" (933 : Nat) ({ cls := "TypeHouseModel", name := "paragraphLine", desc := "(III)V" } : Jvm.MethodName)) ∈ lw_all := lw_g (lw_at lw_m23 170 rfl) rfl
theorem q5877 : (Jvm.Cond.instanceMethod ({ cls := "TypeHouseModel", name := "paragraphLine", desc := "(III)V" } : Jvm.MethodName)) ∈ lw_all := lw_g (lw_at lw_m23 172 rfl) rfl
theorem q5878 : (Jvm.Cond.code ({ cls := "TypeHouseModel", name := "paragraphLine", desc := "(III)V" } : Jvm.MethodName) prog_37_method_130_code (10 : Nat) (Option.none : Option Jvm.ClassFile.FieldType)) ∈ lw_all := lw_g (lw_at lw_m23 173 rfl) rfl
theorem q5879 : (Jvm.Cond.methodLink "TypeHouseModel" (942 : Nat) ({ cls := "TypeHouseModel", name := "lineGlue", desc := "(I)V" } : Jvm.MethodName)) ∈ lw_all := lw_g (lw_at lw_m23 174 rfl) rfl
theorem q5881 : (Jvm.Cond.instanceMethod ({ cls := "TypeHouseModel", name := "lineGlue", desc := "(I)V" } : Jvm.MethodName)) ∈ lw_all := lw_g (lw_at lw_m23 176 rfl) rfl
theorem q5882 : (Jvm.Cond.code ({ cls := "TypeHouseModel", name := "lineGlue", desc := "(I)V" } : Jvm.MethodName) prog_37_method_129_code (3 : Nat) (Option.none : Option Jvm.ClassFile.FieldType)) ∈ lw_all := lw_g (lw_at lw_m23 177 rfl) rfl
theorem q5883 : (Jvm.Cond.methodLink "TypeHouseModel" (939 : Nat) ({ cls := "TypeHouseModel", name := "lineItem", desc := "(IIIIII)V" } : Jvm.MethodName)) ∈ lw_all := lw_g (lw_at lw_m23 178 rfl) rfl
theorem q5885 : (Jvm.Cond.instanceMethod ({ cls := "TypeHouseModel", name := "lineItem", desc := "(IIIIII)V" } : Jvm.MethodName)) ∈ lw_all := lw_g (lw_at lw_m23 180 rfl) rfl
theorem q5886 : (Jvm.Cond.code ({ cls := "TypeHouseModel", name := "lineItem", desc := "(IIIIII)V" } : Jvm.MethodName) prog_37_method_128_code (8 : Nat) (Option.none : Option Jvm.ClassFile.FieldType)) ∈ lw_all := lw_g (lw_at lw_m23 181 rfl) rfl
theorem q5887 : (Jvm.Cond.methodLink "TypeHouseModel" (948 : Nat) ({ cls := "TypeHouseModel", name := "penaltyItem", desc := "(J)V" } : Jvm.MethodName)) ∈ lw_all := lw_g (lw_at lw_m23 182 rfl) rfl
theorem q5889 : (Jvm.Cond.instanceMethod ({ cls := "TypeHouseModel", name := "penaltyItem", desc := "(J)V" } : Jvm.MethodName)) ∈ lw_all := lw_g (lw_at lw_m23 184 rfl) rfl
theorem q5890 : (Jvm.Cond.code ({ cls := "TypeHouseModel", name := "penaltyItem", desc := "(J)V" } : Jvm.MethodName) prog_37_method_112_code (3 : Nat) (Option.none : Option Jvm.ClassFile.FieldType)) ∈ lw_all := lw_g (lw_at lw_m23 185 rfl) rfl
theorem q5891 : (Jvm.Cond.methodLink "TypeHouseModel" (807 : Nat) ({ cls := "TypeHouseModel", name := "kept", desc := "(J)I" } : Jvm.MethodName)) ∈ lw_all := lw_g (lw_at lw_m23 186 rfl) rfl
theorem q5892 : (Jvm.Cond.static ({ cls := "TypeHouseModel", name := "kept", desc := "(J)I" } : Jvm.MethodName)) ∈ lw_all := lw_g (lw_at lw_m23 187 rfl) rfl
theorem q5893 : (Jvm.Cond.code ({ cls := "TypeHouseModel", name := "kept", desc := "(J)I" } : Jvm.MethodName) prog_37_method_111_code (2 : Nat) (Option.some Jvm.ClassFile.FieldType.int)) ∈ lw_all := lw_g (lw_at lw_m23 188 rfl) rfl
theorem q5894 : (Jvm.Cond.constantLong "TypeHouseModel" (805 : Nat) (-10000 : Int64)) ∈ lw_all := lw_g (lw_at lw_m23 189 rfl) rfl
theorem q5895 : (Jvm.Cond.methodLink "TypeHouseModel" (1139 : Nat) ({ cls := "TypeHouseModel", name := "goesTo", desc := "(IIIZ)V" } : Jvm.MethodName)) ∈ lw_all := lw_g (lw_at lw_m23 190 rfl) rfl
theorem q5897 : (Jvm.Cond.instanceMethod ({ cls := "TypeHouseModel", name := "goesTo", desc := "(IIIZ)V" } : Jvm.MethodName)) ∈ lw_all := lw_g (lw_at lw_m23 192 rfl) rfl
theorem q5898 : (Jvm.Cond.code ({ cls := "TypeHouseModel", name := "goesTo", desc := "(IIIZ)V" } : Jvm.MethodName) prog_37_method_167_code (5 : Nat) (Option.none : Option Jvm.ClassFile.FieldType)) ∈ lw_all := lw_g (lw_at lw_m23 193 rfl) rfl
abbrev cX37_choose : ByteArray := prog_38_method_23_code
def yX37_choose : MethodName := ⟨RX37, "choose", "()I"⟩
def YX37_choose : eY := (yX37_choose, cX37_choose, 8, (Option.some FieldType.int), [])
theorem mX37_choose : e_mv YX37_choose RX37 0 := ⟨q5858, qs386, q5859, by decide, by decide +kernel, (e_sig (by decide +kernel))⟩
theorem dX37_choose_0 : decode cX37_choose 0 = .ok (.iconst (-1), 1) := dc_2 (by decide +kernel)
theorem dX37_choose_1 : decode cX37_choose 1 = .ok (.istore_n 1, 1) := dc_60 (by decide +kernel)
theorem dX37_choose_2 : decode cX37_choose 2 = .ok (.iconst 1, 1) := dc_4 (by decide +kernel)
theorem dX37_choose_3 : decode cX37_choose 3 = .ok (.istore_n 2, 1) := dc_61 (by decide +kernel)
theorem dX37_choose_4 : decode cX37_choose 4 = .ok (.iload_n 2, 1) := dc_28 (by decide +kernel)
theorem dX37_choose_5 : decode cX37_choose 5 = .ok (.aload_n 0, 1) := dc_42 (by decide +kernel)
theorem dX37_choose_6 : decode cX37_choose 6 = .ok (.getfield 185, 3) := dc_180 (a := 0) (b := 185) (n := 185) (by decide +kernel)
theorem dX37_choose_9 : decode cX37_choose 9 = .ok (.if_icmp .gt 41, 3) := dc_163 (a := 0) (b := 41) (v := 41) (by decide +kernel)
theorem dX37_choose_12 : decode cX37_choose 12 = .ok (.aload_n 0, 1) := dc_42 (by decide +kernel)
theorem dX37_choose_13 : decode cX37_choose 13 = .ok (.getfield 49, 3) := dc_180 (a := 0) (b := 49) (n := 49) (by decide +kernel)
theorem dX37_choose_16 : decode cX37_choose 16 = .ok (.iload_n 2, 1) := dc_28 (by decide +kernel)
theorem dX37_choose_17 : decode cX37_choose 17 = .ok (.iaload, 1) := dc_46 (by decide +kernel)
theorem dX37_choose_18 : decode cX37_choose 18 = .ok (.aload_n 0, 1) := dc_42 (by decide +kernel)
theorem dX37_choose_19 : decode cX37_choose 19 = .ok (.getfield 119, 3) := dc_180 (a := 0) (b := 119) (n := 119) (by decide +kernel)
theorem dX37_choose_22 : decode cX37_choose 22 = .ok (.if_icmp .ne 20, 3) := dc_160 (a := 0) (b := 20) (v := 20) (by decide +kernel)
theorem dX37_choose_25 : decode cX37_choose 25 = .ok (.iload_n 1, 1) := dc_27 (by decide +kernel)
theorem dX37_choose_26 : decode cX37_choose 26 = .ok (.ifCond .lt 12, 3) := dc_155 (a := 0) (b := 12) (v := 12) (by decide +kernel)
theorem dX37_choose_29 : decode cX37_choose 29 = .ok (.aload_n 0, 1) := dc_42 (by decide +kernel)
theorem dX37_choose_30 : decode cX37_choose 30 = .ok (.iload_n 2, 1) := dc_28 (by decide +kernel)
theorem dX37_choose_31 : decode cX37_choose 31 = .ok (.iload_n 1, 1) := dc_27 (by decide +kernel)
theorem dX37_choose_32 : decode cX37_choose 32 = .ok (.invokevirtual 225, 3) := dc_182 (a := 0) (b := 225) (n := 225) (by decide +kernel)
theorem dX37_choose_35 : decode cX37_choose 35 = .ok (.ifCond .eq 7, 3) := dc_153 (a := 0) (b := 7) (v := 7) (by decide +kernel)
theorem dX37_choose_38 : decode cX37_choose 38 = .ok (.iload_n 2, 1) := dc_28 (by decide +kernel)
theorem dX37_choose_39 : decode cX37_choose 39 = .ok (.goto 4, 3) := dc_167 (a := 0) (b := 4) (v := 4) (by decide +kernel)
theorem dX37_choose_42 : decode cX37_choose 42 = .ok (.iload_n 1, 1) := dc_27 (by decide +kernel)
theorem dX37_choose_43 : decode cX37_choose 43 = .ok (.istore_n 1, 1) := dc_60 (by decide +kernel)
theorem dX37_choose_44 : decode cX37_choose 44 = .ok (.iinc 2 1, 3) := dc_132 (a := 2) (b := 1) (v := 1) (by decide +kernel)
theorem dX37_choose_47 : decode cX37_choose 47 = .ok (.goto (-43), 3) := dc_167 (a := 255) (b := 213) (v := -43) (by decide +kernel)
theorem dX37_choose_50 : decode cX37_choose 50 = .ok (.iload_n 1, 1) := dc_27 (by decide +kernel)
theorem dX37_choose_51 : decode cX37_choose 51 = .ok (.ifCond .lt 13, 3) := dc_155 (a := 0) (b := 13) (v := 13) (by decide +kernel)
theorem dX37_choose_54 : decode cX37_choose 54 = .ok (.aload_n 0, 1) := dc_42 (by decide +kernel)
theorem dX37_choose_55 : decode cX37_choose 55 = .ok (.getfield 34, 3) := dc_180 (a := 0) (b := 34) (n := 34) (by decide +kernel)
theorem dX37_choose_58 : decode cX37_choose 58 = .ok (.bipush 9, 2) := dc_16 (a := 9) (v := 9) (by decide +kernel)
theorem dX37_choose_60 : decode cX37_choose 60 = .ok (.iaload, 1) := dc_46 (by decide +kernel)
theorem dX37_choose_61 : decode cX37_choose 61 = .ok (.ifCond .ne 5, 3) := dc_154 (a := 0) (b := 5) (v := 5) (by decide +kernel)
theorem dX37_choose_64 : decode cX37_choose 64 = .ok (.iload_n 1, 1) := dc_27 (by decide +kernel)
theorem dX37_choose_65 : decode cX37_choose 65 = .ok (.ireturn, 1) := dc_172 (by decide +kernel)
theorem dX37_choose_66 : decode cX37_choose 66 = .ok (.aload_n 0, 1) := dc_42 (by decide +kernel)
theorem dX37_choose_67 : decode cX37_choose 67 = .ok (.getfield 52, 3) := dc_180 (a := 0) (b := 52) (n := 52) (by decide +kernel)
theorem dX37_choose_70 : decode cX37_choose 70 = .ok (.iload_n 1, 1) := dc_27 (by decide +kernel)
theorem dX37_choose_71 : decode cX37_choose 71 = .ok (.iaload, 1) := dc_46 (by decide +kernel)
theorem dX37_choose_72 : decode cX37_choose 72 = .ok (.aload_n 0, 1) := dc_42 (by decide +kernel)
theorem dX37_choose_73 : decode cX37_choose 73 = .ok (.getfield 34, 3) := dc_180 (a := 0) (b := 34) (n := 34) (by decide +kernel)
theorem dX37_choose_76 : decode cX37_choose 76 = .ok (.bipush 9, 2) := dc_16 (a := 9) (v := 9) (by decide +kernel)
theorem dX37_choose_78 : decode cX37_choose 78 = .ok (.iaload, 1) := dc_46 (by decide +kernel)
theorem dX37_choose_79 : decode cX37_choose 79 = .ok (.iadd, 1) := dc_96 (by decide +kernel)
theorem dX37_choose_80 : decode cX37_choose 80 = .ok (.istore_n 2, 1) := dc_61 (by decide +kernel)
theorem dX37_choose_81 : decode cX37_choose 81 = .ok (.iload_n 1, 1) := dc_27 (by decide +kernel)
theorem dX37_choose_82 : decode cX37_choose 82 = .ok (.istore_n 3, 1) := dc_62 (by decide +kernel)
theorem dX37_choose_83 : decode cX37_choose 83 = .ok (.iconst 1, 1) := dc_4 (by decide +kernel)
theorem dX37_choose_84 : decode cX37_choose 84 = .ok (.istore 4, 2) := dc_54 (a := 4) (by decide +kernel)
theorem dX37_choose_86 : decode cX37_choose 86 = .ok (.iload 4, 2) := dc_21 (a := 4) (by decide +kernel)
theorem dX37_choose_88 : decode cX37_choose 88 = .ok (.aload_n 0, 1) := dc_42 (by decide +kernel)
theorem dX37_choose_89 : decode cX37_choose 89 = .ok (.getfield 185, 3) := dc_180 (a := 0) (b := 185) (n := 185) (by decide +kernel)
theorem dX37_choose_92 : decode cX37_choose 92 = .ok (.if_icmp .gt 134, 3) := dc_163 (a := 0) (b := 134) (v := 134) (by decide +kernel)
theorem dX37_choose_95 : decode cX37_choose 95 = .ok (.aload_n 0, 1) := dc_42 (by decide +kernel)
theorem dX37_choose_96 : decode cX37_choose 96 = .ok (.getfield 49, 3) := dc_180 (a := 0) (b := 49) (n := 49) (by decide +kernel)
theorem dX37_choose_99 : decode cX37_choose 99 = .ok (.iload 4, 2) := dc_21 (a := 4) (by decide +kernel)
theorem dX37_choose_101 : decode cX37_choose 101 = .ok (.iaload, 1) := dc_46 (by decide +kernel)
theorem dX37_choose_102 : decode cX37_choose 102 = .ok (.aload_n 0, 1) := dc_42 (by decide +kernel)
theorem dX37_choose_103 : decode cX37_choose 103 = .ok (.getfield 119, 3) := dc_180 (a := 0) (b := 119) (n := 119) (by decide +kernel)
theorem dX37_choose_106 : decode cX37_choose 106 = .ok (.if_icmp .ne 34, 3) := dc_160 (a := 0) (b := 34) (v := 34) (by decide +kernel)
theorem dX37_choose_109 : decode cX37_choose 109 = .ok (.aload_n 0, 1) := dc_42 (by decide +kernel)
theorem dX37_choose_110 : decode cX37_choose 110 = .ok (.getfield 52, 3) := dc_180 (a := 0) (b := 52) (n := 52) (by decide +kernel)
theorem dX37_choose_113 : decode cX37_choose 113 = .ok (.iload 4, 2) := dc_21 (a := 4) (by decide +kernel)
theorem dX37_choose_115 : decode cX37_choose 115 = .ok (.iaload, 1) := dc_46 (by decide +kernel)
theorem dX37_choose_116 : decode cX37_choose 116 = .ok (.aload_n 0, 1) := dc_42 (by decide +kernel)
theorem dX37_choose_117 : decode cX37_choose 117 = .ok (.getfield 52, 3) := dc_180 (a := 0) (b := 52) (n := 52) (by decide +kernel)
theorem dX37_choose_120 : decode cX37_choose 120 = .ok (.iload_n 1, 1) := dc_27 (by decide +kernel)
theorem dX37_choose_121 : decode cX37_choose 121 = .ok (.iaload, 1) := dc_46 (by decide +kernel)
theorem dX37_choose_122 : decode cX37_choose 122 = .ok (.isub, 1) := dc_100 (by decide +kernel)
theorem dX37_choose_123 : decode cX37_choose 123 = .ok (.aload_n 0, 1) := dc_42 (by decide +kernel)
theorem dX37_choose_124 : decode cX37_choose 124 = .ok (.getfield 52, 3) := dc_180 (a := 0) (b := 52) (n := 52) (by decide +kernel)
theorem dX37_choose_127 : decode cX37_choose 127 = .ok (.iload 4, 2) := dc_21 (a := 4) (by decide +kernel)
theorem dX37_choose_129 : decode cX37_choose 129 = .ok (.iaload, 1) := dc_46 (by decide +kernel)
theorem dX37_choose_130 : decode cX37_choose 130 = .ok (.iload_n 2, 1) := dc_28 (by decide +kernel)
theorem dX37_choose_131 : decode cX37_choose 131 = .ok (.isub, 1) := dc_100 (by decide +kernel)
theorem dX37_choose_132 : decode cX37_choose 132 = .ok (.imul, 1) := dc_104 (by decide +kernel)
theorem dX37_choose_133 : decode cX37_choose 133 = .ok (.ifCond .gt 7, 3) := dc_157 (a := 0) (b := 7) (v := 7) (by decide +kernel)
theorem dX37_choose_136 : decode cX37_choose 136 = .ok (.iconst 1, 1) := dc_4 (by decide +kernel)
theorem dX37_choose_137 : decode cX37_choose 137 = .ok (.goto 4, 3) := dc_167 (a := 0) (b := 4) (v := 4) (by decide +kernel)
theorem dX37_choose_140 : decode cX37_choose 140 = .ok (.iconst 0, 1) := dc_3 (by decide +kernel)
theorem dX37_choose_141 : decode cX37_choose 141 = .ok (.istore 5, 2) := dc_54 (a := 5) (by decide +kernel)
theorem dX37_choose_143 : decode cX37_choose 143 = .ok (.iload 5, 2) := dc_21 (a := 5) (by decide +kernel)
theorem dX37_choose_145 : decode cX37_choose 145 = .ok (.ifCond .eq 75, 3) := dc_153 (a := 0) (b := 75) (v := 75) (by decide +kernel)
theorem dX37_choose_148 : decode cX37_choose 148 = .ok (.aload_n 0, 1) := dc_42 (by decide +kernel)
theorem dX37_choose_149 : decode cX37_choose 149 = .ok (.getfield 52, 3) := dc_180 (a := 0) (b := 52) (n := 52) (by decide +kernel)
theorem dX37_choose_152 : decode cX37_choose 152 = .ok (.iload 4, 2) := dc_21 (a := 4) (by decide +kernel)
theorem dX37_choose_154 : decode cX37_choose 154 = .ok (.iaload, 1) := dc_46 (by decide +kernel)
theorem dX37_choose_155 : decode cX37_choose 155 = .ok (.iload_n 2, 1) := dc_28 (by decide +kernel)
theorem dX37_choose_156 : decode cX37_choose 156 = .ok (.invokestatic 228, 3) := dc_184 (a := 0) (b := 228) (n := 228) (by decide +kernel)
theorem dX37_choose_159 : decode cX37_choose 159 = .ok (.istore 6, 2) := dc_54 (a := 6) (by decide +kernel)
theorem dX37_choose_161 : decode cX37_choose 161 = .ok (.aload_n 0, 1) := dc_42 (by decide +kernel)
theorem dX37_choose_162 : decode cX37_choose 162 = .ok (.getfield 52, 3) := dc_180 (a := 0) (b := 52) (n := 52) (by decide +kernel)
theorem dX37_choose_165 : decode cX37_choose 165 = .ok (.iload_n 3, 1) := dc_29 (by decide +kernel)
theorem dX37_choose_166 : decode cX37_choose 166 = .ok (.iaload, 1) := dc_46 (by decide +kernel)
theorem dX37_choose_167 : decode cX37_choose 167 = .ok (.iload_n 2, 1) := dc_28 (by decide +kernel)
theorem dX37_choose_168 : decode cX37_choose 168 = .ok (.invokestatic 228, 3) := dc_184 (a := 0) (b := 228) (n := 228) (by decide +kernel)
theorem dX37_choose_171 : decode cX37_choose 171 = .ok (.istore 7, 2) := dc_54 (a := 7) (by decide +kernel)
theorem dX37_choose_173 : decode cX37_choose 173 = .ok (.iload 6, 2) := dc_21 (a := 6) (by decide +kernel)
theorem dX37_choose_175 : decode cX37_choose 175 = .ok (.iload 7, 2) := dc_21 (a := 7) (by decide +kernel)
theorem dX37_choose_177 : decode cX37_choose 177 = .ok (.if_icmp .lt 36, 3) := dc_161 (a := 0) (b := 36) (v := 36) (by decide +kernel)
theorem dX37_choose_180 : decode cX37_choose 180 = .ok (.iload 6, 2) := dc_21 (a := 6) (by decide +kernel)
theorem dX37_choose_182 : decode cX37_choose 182 = .ok (.iload 7, 2) := dc_21 (a := 7) (by decide +kernel)
theorem dX37_choose_184 : decode cX37_choose 184 = .ok (.if_icmp .ne 34, 3) := dc_160 (a := 0) (b := 34) (v := 34) (by decide +kernel)
theorem dX37_choose_187 : decode cX37_choose 187 = .ok (.aload_n 0, 1) := dc_42 (by decide +kernel)
theorem dX37_choose_188 : decode cX37_choose 188 = .ok (.getfield 52, 3) := dc_180 (a := 0) (b := 52) (n := 52) (by decide +kernel)
theorem dX37_choose_191 : decode cX37_choose 191 = .ok (.iload 4, 2) := dc_21 (a := 4) (by decide +kernel)
theorem dX37_choose_193 : decode cX37_choose 193 = .ok (.iaload, 1) := dc_46 (by decide +kernel)
theorem dX37_choose_194 : decode cX37_choose 194 = .ok (.aload_n 0, 1) := dc_42 (by decide +kernel)
theorem dX37_choose_195 : decode cX37_choose 195 = .ok (.getfield 52, 3) := dc_180 (a := 0) (b := 52) (n := 52) (by decide +kernel)
theorem dX37_choose_198 : decode cX37_choose 198 = .ok (.iload_n 3, 1) := dc_29 (by decide +kernel)
theorem dX37_choose_199 : decode cX37_choose 199 = .ok (.iaload, 1) := dc_46 (by decide +kernel)
theorem dX37_choose_200 : decode cX37_choose 200 = .ok (.if_icmp .ne 18, 3) := dc_160 (a := 0) (b := 18) (v := 18) (by decide +kernel)
theorem dX37_choose_203 : decode cX37_choose 203 = .ok (.aload_n 0, 1) := dc_42 (by decide +kernel)
theorem dX37_choose_204 : decode cX37_choose 204 = .ok (.iload 4, 2) := dc_21 (a := 4) (by decide +kernel)
theorem dX37_choose_206 : decode cX37_choose 206 = .ok (.iload_n 3, 1) := dc_29 (by decide +kernel)
theorem dX37_choose_207 : decode cX37_choose 207 = .ok (.invokevirtual 225, 3) := dc_182 (a := 0) (b := 225) (n := 225) (by decide +kernel)
theorem dX37_choose_210 : decode cX37_choose 210 = .ok (.ifCond .eq 8, 3) := dc_153 (a := 0) (b := 8) (v := 8) (by decide +kernel)
theorem dX37_choose_213 : decode cX37_choose 213 = .ok (.iload 4, 2) := dc_21 (a := 4) (by decide +kernel)
theorem dX37_choose_215 : decode cX37_choose 215 = .ok (.goto 4, 3) := dc_167 (a := 0) (b := 4) (v := 4) (by decide +kernel)
theorem dX37_choose_218 : decode cX37_choose 218 = .ok (.iload_n 3, 1) := dc_29 (by decide +kernel)
theorem dX37_choose_219 : decode cX37_choose 219 = .ok (.istore_n 3, 1) := dc_62 (by decide +kernel)
theorem dX37_choose_220 : decode cX37_choose 220 = .ok (.iinc 4 1, 3) := dc_132 (a := 4) (b := 1) (v := 1) (by decide +kernel)
theorem dX37_choose_223 : decode cX37_choose 223 = .ok (.goto (-137), 3) := dc_167 (a := 255) (b := 119) (v := -137) (by decide +kernel)
theorem dX37_choose_226 : decode cX37_choose 226 = .ok (.aload_n 0, 1) := dc_42 (by decide +kernel)
theorem dX37_choose_227 : decode cX37_choose 227 = .ok (.getfield 122, 3) := dc_180 (a := 0) (b := 122) (n := 122) (by decide +kernel)
theorem dX37_choose_230 : decode cX37_choose 230 = .ok (.aload_n 0, 1) := dc_42 (by decide +kernel)
theorem dX37_choose_231 : decode cX37_choose 231 = .ok (.getfield 34, 3) := dc_180 (a := 0) (b := 34) (n := 34) (by decide +kernel)
theorem dX37_choose_234 : decode cX37_choose 234 = .ok (.bipush 8, 2) := dc_16 (a := 8) (v := 8) (by decide +kernel)
theorem dX37_choose_236 : decode cX37_choose 236 = .ok (.iaload, 1) := dc_46 (by decide +kernel)
theorem dX37_choose_237 : decode cX37_choose 237 = .ok (.ifCond .le 7, 3) := dc_158 (a := 0) (b := 7) (v := 7) (by decide +kernel)
theorem dX37_choose_240 : decode cX37_choose 240 = .ok (.iconst 3, 1) := dc_6 (by decide +kernel)
theorem dX37_choose_241 : decode cX37_choose 241 = .ok (.goto 4, 3) := dc_167 (a := 0) (b := 4) (v := 4) (by decide +kernel)
theorem dX37_choose_244 : decode cX37_choose 244 = .ok (.iconst 2, 1) := dc_5 (by decide +kernel)
theorem dX37_choose_245 : decode cX37_choose 245 = .ok (.if_icmp .ne 7, 3) := dc_160 (a := 0) (b := 7) (v := 7) (by decide +kernel)
theorem dX37_choose_248 : decode cX37_choose 248 = .ok (.iconst 1, 1) := dc_4 (by decide +kernel)
theorem dX37_choose_249 : decode cX37_choose 249 = .ok (.goto 4, 3) := dc_167 (a := 0) (b := 4) (v := 4) (by decide +kernel)
theorem dX37_choose_252 : decode cX37_choose 252 = .ok (.iconst 0, 1) := dc_3 (by decide +kernel)
theorem dX37_choose_253 : decode cX37_choose 253 = .ok (.istore 4, 2) := dc_54 (a := 4) (by decide +kernel)
theorem dX37_choose_255 : decode cX37_choose 255 = .ok (.iload 4, 2) := dc_21 (a := 4) (by decide +kernel)
theorem dX37_choose_257 : decode cX37_choose 257 = .ok (.ifCond .ne 17, 3) := dc_154 (a := 0) (b := 17) (v := 17) (by decide +kernel)
theorem dX37_choose_260 : decode cX37_choose 260 = .ok (.aload_n 0, 1) := dc_42 (by decide +kernel)
theorem dX37_choose_261 : decode cX37_choose 261 = .ok (.getfield 52, 3) := dc_180 (a := 0) (b := 52) (n := 52) (by decide +kernel)
theorem dX37_choose_264 : decode cX37_choose 264 = .ok (.iload_n 3, 1) := dc_29 (by decide +kernel)
theorem dX37_choose_265 : decode cX37_choose 265 = .ok (.iaload, 1) := dc_46 (by decide +kernel)
theorem dX37_choose_266 : decode cX37_choose 266 = .ok (.iload_n 2, 1) := dc_28 (by decide +kernel)
theorem dX37_choose_267 : decode cX37_choose 267 = .ok (.if_icmp .eq 7, 3) := dc_159 (a := 0) (b := 7) (v := 7) (by decide +kernel)
theorem dX37_choose_270 : decode cX37_choose 270 = .ok (.iconst (-1), 1) := dc_2 (by decide +kernel)
theorem dX37_choose_271 : decode cX37_choose 271 = .ok (.goto 4, 3) := dc_167 (a := 0) (b := 4) (v := 4) (by decide +kernel)
theorem dX37_choose_274 : decode cX37_choose 274 = .ok (.iload_n 3, 1) := dc_29 (by decide +kernel)
theorem dX37_choose_275 : decode cX37_choose 275 = .ok (.ireturn, 1) := dc_172 (by decide +kernel)
def fX37_choose_b43 (N : Nat) (k4 : Nat → Int32 → Int32 → eH → Option (Int32 × eH)) (l0 : Nat) (l2 : Int32) (s0 : Int32) (h : eH) : Option (Int32 × eH) :=
  k4 l0 s0 (l2 + (1 : Int32)) h
theorem pX37_choose_b43 {w : eW} {d : Nat} (hd : 1 ≤ d + 1) {N : Nat} {k4 : Nat → Int32 → Int32 → eH → Option (Int32 × eH)} (hk4 : ∀ l0 l1 l2 h q, k4 l0 l1 l2 h = some q → wp w (d + 1) YX37_choose 4 [some (.ref l0), some (.int l1), some (.int l2), none, none, none, none, none] [] h (e_is (e_rn c_I q))) {l0 : Nat} {l2 : Int32} {s0 : Int32} {h : eH} {q} (hf : fX37_choose_b43 N k4 l0 l2 s0 h = some q) : wp w (d + 1) YX37_choose 43 [some (.ref l0), none, some (.int l2), none, none, none, none, none] [.int s0] h (e_is (e_rn c_I q)) := by
  unfold fX37_choose_b43 at hf
  refine w_istore_n dX37_choose_43 rfl (by decide) (ls' := [some (.ref l0), some (.int s0), some (.int l2), none, none, none, none, none]) rfl ?_
  refine w_iinc dX37_choose_44 (v := (l2 + (1 : Int32))) rfl rfl (by decide) (ls' := [some (.ref l0), some (.int s0), some (.int (l2 + (1 : Int32))), none, none, none, none, none]) rfl ?_
  refine w_goto 4 dX37_choose_47 (by decide) ?_
  exact (hk4 _ _ _ _ _ hf).to ⟨rfl, rfl, rfl, trivial⟩
def fX37_choose_b38 (N : Nat) (k4 : Nat → Int32 → Int32 → eH → Option (Int32 × eH)) (l0 : Nat) (l2 : Int32) (h : eH) : Option (Int32 × eH) :=
  fX37_choose_b43 N k4 l0 l2 l2 h
theorem pX37_choose_b38 {w : eW} {d : Nat} (hd : 1 ≤ d + 1) {N : Nat} {k4 : Nat → Int32 → Int32 → eH → Option (Int32 × eH)} (hk4 : ∀ l0 l1 l2 h q, k4 l0 l1 l2 h = some q → wp w (d + 1) YX37_choose 4 [some (.ref l0), some (.int l1), some (.int l2), none, none, none, none, none] [] h (e_is (e_rn c_I q))) {l0 : Nat} {l2 : Int32} {h : eH} {q} (hf : fX37_choose_b38 N k4 l0 l2 h = some q) : wp w (d + 1) YX37_choose 38 [some (.ref l0), none, some (.int l2), none, none, none, none, none] [] h (e_is (e_rn c_I q)) := by
  unfold fX37_choose_b38 at hf
  refine w_iload_n dX37_choose_38 rfl rfl ?_
  refine w_goto 43 dX37_choose_39 (by decide) ?_
  exact (pX37_choose_b43 hd hk4 hf).to ⟨rfl, rfl, trivial⟩
def fX37_choose_b42 (N : Nat) (k4 : Nat → Int32 → Int32 → eH → Option (Int32 × eH)) (l0 : Nat) (l1 : Int32) (l2 : Int32) (h : eH) : Option (Int32 × eH) :=
  fX37_choose_b43 N k4 l0 l2 l1 h
theorem pX37_choose_b42 {w : eW} {d : Nat} (hd : 1 ≤ d + 1) {N : Nat} {k4 : Nat → Int32 → Int32 → eH → Option (Int32 × eH)} (hk4 : ∀ l0 l1 l2 h q, k4 l0 l1 l2 h = some q → wp w (d + 1) YX37_choose 4 [some (.ref l0), some (.int l1), some (.int l2), none, none, none, none, none] [] h (e_is (e_rn c_I q))) {l0 : Nat} {l1 : Int32} {l2 : Int32} {h : eH} {q} (hf : fX37_choose_b42 N k4 l0 l1 l2 h = some q) : wp w (d + 1) YX37_choose 42 [some (.ref l0), some (.int l1), some (.int l2), none, none, none, none, none] [] h (e_is (e_rn c_I q)) := by
  unfold fX37_choose_b42 at hf
  refine w_iload_n dX37_choose_42 rfl rfl ?_
  exact (pX37_choose_b43 hd hk4 hf).to ⟨rfl, rfl, trivial⟩
def fX37_choose_b64 (N : Nat) (l1 : Int32) (h : eH) : Option (Int32 × eH) :=
  some (l1, h)
theorem pX37_choose_b64 {w : eW} {d : Nat} (hd : 1 ≤ d + 1) {N : Nat} {l1 : Int32} {h : eH} {q} (hf : fX37_choose_b64 N l1 h = some q) : wp w (d + 1) YX37_choose 64 [none, some (.int l1), none, none, none, none, none, none] [] h (e_is (e_rn c_I q)) := by
  unfold fX37_choose_b64 at hf
  refine w_iload_n dX37_choose_64 rfl rfl ?_
  cases hf
  exact w_iret dX37_choose_65 rfl rfl rfl
def fX37_choose_b220 (N : Nat) (k86 : Nat → Int32 → Int32 → Int32 → Int32 → eH → Option (Int32 × eH)) (l0 : Nat) (l1 : Int32) (l2 : Int32) (l3 : Int32) (l4 : Int32) (h : eH) : Option (Int32 × eH) :=
  k86 l0 l1 l2 l3 (l4 + (1 : Int32)) h
theorem pX37_choose_b220 {w : eW} {d : Nat} (hd : 1 ≤ d + 1) {N : Nat} {k86 : Nat → Int32 → Int32 → Int32 → Int32 → eH → Option (Int32 × eH)} (hk86 : ∀ l0 l1 l2 l3 l4 h q, k86 l0 l1 l2 l3 l4 h = some q → wp w (d + 1) YX37_choose 86 [some (.ref l0), some (.int l1), some (.int l2), some (.int l3), some (.int l4), none, none, none] [] h (e_is (e_rn c_I q))) {l0 : Nat} {l1 : Int32} {l2 : Int32} {l3 : Int32} {l4 : Int32} {h : eH} {q} (hf : fX37_choose_b220 N k86 l0 l1 l2 l3 l4 h = some q) : wp w (d + 1) YX37_choose 220 [some (.ref l0), some (.int l1), some (.int l2), some (.int l3), some (.int l4), none, none, none] [] h (e_is (e_rn c_I q)) := by
  unfold fX37_choose_b220 at hf
  refine w_iinc dX37_choose_220 (v := (l4 + (1 : Int32))) rfl rfl (by decide) (ls' := [some (.ref l0), some (.int l1), some (.int l2), some (.int l3), some (.int (l4 + (1 : Int32))), none, none, none]) rfl ?_
  refine w_goto 86 dX37_choose_223 (by decide) ?_
  exact (hk86 _ _ _ _ _ _ _ hf).to ⟨rfl, rfl, rfl, rfl, rfl, trivial⟩
def fX37_choose_b219 (N : Nat) (k86 : Nat → Int32 → Int32 → Int32 → Int32 → eH → Option (Int32 × eH)) (l0 : Nat) (l1 : Int32) (l2 : Int32) (l4 : Int32) (s0 : Int32) (h : eH) : Option (Int32 × eH) :=
  fX37_choose_b220 N k86 l0 l1 l2 s0 l4 h
theorem pX37_choose_b219 {w : eW} {d : Nat} (hd : 1 ≤ d + 1) {N : Nat} {k86 : Nat → Int32 → Int32 → Int32 → Int32 → eH → Option (Int32 × eH)} (hk86 : ∀ l0 l1 l2 l3 l4 h q, k86 l0 l1 l2 l3 l4 h = some q → wp w (d + 1) YX37_choose 86 [some (.ref l0), some (.int l1), some (.int l2), some (.int l3), some (.int l4), none, none, none] [] h (e_is (e_rn c_I q))) {l0 : Nat} {l1 : Int32} {l2 : Int32} {l4 : Int32} {s0 : Int32} {h : eH} {q} (hf : fX37_choose_b219 N k86 l0 l1 l2 l4 s0 h = some q) : wp w (d + 1) YX37_choose 219 [some (.ref l0), some (.int l1), some (.int l2), none, some (.int l4), none, none, none] [.int s0] h (e_is (e_rn c_I q)) := by
  unfold fX37_choose_b219 at hf
  refine w_istore_n dX37_choose_219 rfl (by decide) (ls' := [some (.ref l0), some (.int l1), some (.int l2), some (.int s0), some (.int l4), none, none, none]) rfl ?_
  exact (pX37_choose_b220 hd hk86 hf).to ⟨rfl, rfl, rfl, rfl, rfl, trivial⟩
def fX37_choose_b213 (N : Nat) (k86 : Nat → Int32 → Int32 → Int32 → Int32 → eH → Option (Int32 × eH)) (l0 : Nat) (l1 : Int32) (l2 : Int32) (l4 : Int32) (h : eH) : Option (Int32 × eH) :=
  fX37_choose_b219 N k86 l0 l1 l2 l4 l4 h
theorem pX37_choose_b213 {w : eW} {d : Nat} (hd : 1 ≤ d + 1) {N : Nat} {k86 : Nat → Int32 → Int32 → Int32 → Int32 → eH → Option (Int32 × eH)} (hk86 : ∀ l0 l1 l2 l3 l4 h q, k86 l0 l1 l2 l3 l4 h = some q → wp w (d + 1) YX37_choose 86 [some (.ref l0), some (.int l1), some (.int l2), some (.int l3), some (.int l4), none, none, none] [] h (e_is (e_rn c_I q))) {l0 : Nat} {l1 : Int32} {l2 : Int32} {l4 : Int32} {h : eH} {q} (hf : fX37_choose_b213 N k86 l0 l1 l2 l4 h = some q) : wp w (d + 1) YX37_choose 213 [some (.ref l0), some (.int l1), some (.int l2), none, some (.int l4), none, none, none] [] h (e_is (e_rn c_I q)) := by
  unfold fX37_choose_b213 at hf
  refine w_iload dX37_choose_213 rfl ?_
  refine w_goto 219 dX37_choose_215 (by decide) ?_
  exact (pX37_choose_b219 hd hk86 hf).to ⟨rfl, rfl, rfl, rfl, trivial⟩
def fX37_choose_b218 (N : Nat) (k86 : Nat → Int32 → Int32 → Int32 → Int32 → eH → Option (Int32 × eH)) (l0 : Nat) (l1 : Int32) (l2 : Int32) (l3 : Int32) (l4 : Int32) (h : eH) : Option (Int32 × eH) :=
  fX37_choose_b219 N k86 l0 l1 l2 l4 l3 h
theorem pX37_choose_b218 {w : eW} {d : Nat} (hd : 1 ≤ d + 1) {N : Nat} {k86 : Nat → Int32 → Int32 → Int32 → Int32 → eH → Option (Int32 × eH)} (hk86 : ∀ l0 l1 l2 l3 l4 h q, k86 l0 l1 l2 l3 l4 h = some q → wp w (d + 1) YX37_choose 86 [some (.ref l0), some (.int l1), some (.int l2), some (.int l3), some (.int l4), none, none, none] [] h (e_is (e_rn c_I q))) {l0 : Nat} {l1 : Int32} {l2 : Int32} {l3 : Int32} {l4 : Int32} {h : eH} {q} (hf : fX37_choose_b218 N k86 l0 l1 l2 l3 l4 h = some q) : wp w (d + 1) YX37_choose 218 [some (.ref l0), some (.int l1), some (.int l2), some (.int l3), some (.int l4), none, none, none] [] h (e_is (e_rn c_I q)) := by
  unfold fX37_choose_b218 at hf
  refine w_iload_n dX37_choose_218 rfl rfl ?_
  exact (pX37_choose_b219 hd hk86 hf).to ⟨rfl, rfl, rfl, rfl, trivial⟩
def fX37_choose_b141 (N : Nat) (k86 : Nat → Int32 → Int32 → Int32 → Int32 → eH → Option (Int32 × eH)) (l0 : Nat) (l1 : Int32) (l2 : Int32) (l3 : Int32) (l4 : Int32) (s0 : Int32) (h : eH) : Option (Int32 × eH) :=
  if s0 = 0 then
    fX37_choose_b220 N k86 l0 l1 l2 l3 l4 h
  else
    (g_A 36 h l0 24).bind fun a2 =>
    (r_I 100 h a2 l4).bind fun x4 =>
    (fX37_apart x4 l2 h).bind fun q6 =>
    (g_A 36 q6.2 l0 24).bind fun a7 =>
    (r_I 100 q6.2 a7 l3).bind fun x9 =>
    (fX37_apart x9 l2 q6.2).bind fun q11 =>
    if q6.1 < q11.1 then
      fX37_choose_b213 N k86 l0 l1 l2 l4 q11.2
    else
      if ¬ q6.1 = q11.1 then
        fX37_choose_b218 N k86 l0 l1 l2 l3 l4 q11.2
      else
        (g_A 36 q11.2 l0 24).bind fun a14 =>
        (r_I 100 q11.2 a14 l4).bind fun x16 =>
        (g_A 36 q11.2 l0 24).bind fun a18 =>
        (r_I 100 q11.2 a18 l3).bind fun x20 =>
        if ¬ x16 = x20 then
          fX37_choose_b218 N k86 l0 l1 l2 l3 l4 q11.2
        else
          (k_ok 36 q11.2 l0).bind fun _ =>
          (fX37_isLess l0 l4 l3 q11.2).bind fun q24 =>
          if q24.1 = 0 then
            fX37_choose_b218 N k86 l0 l1 l2 l3 l4 q24.2
          else
            fX37_choose_b213 N k86 l0 l1 l2 l4 q24.2
theorem pX37_choose_b141 {w : eW} {d : Nat} (hd : 1 ≤ d + 1) {N : Nat} {k86 : Nat → Int32 → Int32 → Int32 → Int32 → eH → Option (Int32 × eH)} (hk86 : ∀ l0 l1 l2 l3 l4 h q, k86 l0 l1 l2 l3 l4 h = some q → wp w (d + 1) YX37_choose 86 [some (.ref l0), some (.int l1), some (.int l2), some (.int l3), some (.int l4), none, none, none] [] h (e_is (e_rn c_I q))) {l0 : Nat} {l1 : Int32} {l2 : Int32} {l3 : Int32} {l4 : Int32} {s0 : Int32} {h : eH} {q} (hf : fX37_choose_b141 N k86 l0 l1 l2 l3 l4 s0 h = some q) : wp w (d + 1) YX37_choose 141 [some (.ref l0), some (.int l1), some (.int l2), some (.int l3), some (.int l4), none, none, none] [.int s0] h (e_is (e_rn c_I q)) := by
  unfold fX37_choose_b141 at hf
  refine w_istore dX37_choose_141 (by decide) (ls' := [some (.ref l0), some (.int l1), some (.int l2), some (.int l3), some (.int l4), some (.int s0), none, none]) rfl ?_
  refine w_iload dX37_choose_143 rfl ?_
  refine w_if_eq 220 dX37_choose_145 (by decide) (fun c1 => ?_) (fun c1 => ?_)
  · replace hf := (if_pos (show s0 = 0 from c1)).symm.trans hf
    exact (pX37_choose_b220 hd hk86 hf).to ⟨rfl, rfl, rfl, rfl, rfl, trivial⟩
  · replace hf := (if_neg (show ¬ (s0 = 0) from c1)).symm.trans hf
    refine w_aload_n dX37_choose_148 rfl rfl ?_
    obtain ⟨a2, b3, hf⟩ := Option.bind_eq_some_iff.mp hf
    refine GX37_52 b3 dX37_choose_149 rfl ?_
    refine w_iload dX37_choose_152 rfl ?_
    obtain ⟨x4, b5, hf⟩ := Option.bind_eq_some_iff.mp hf
    refine x_rI b5 dX37_choose_154 ?_
    refine w_iload_n dX37_choose_155 rfl rfl ?_
    refine x_cnI hf (e_stS (Yc := YX37_apart) (av := [.int x4, .int l2]) (st := []) dX37_choose_156 q5864 mX37_apart) mX37_apart.2.2.1 mX37_apart.2.2.2.2.1 (Nat.le_of_ble_eq_true rfl) (Nat.le_of_ble_eq_true rfl) (fun q hq => pX37_apart (by omega) hq) (fun q6 hf => ?_)
    refine w_istore dX37_choose_159 (by decide) (ls' := [some (.ref l0), some (.int l1), some (.int l2), some (.int l3), some (.int l4), some (.int s0), some (.int q6.1), none]) rfl ?_
    refine w_aload_n dX37_choose_161 rfl rfl ?_
    obtain ⟨a7, b8, hf⟩ := Option.bind_eq_some_iff.mp hf
    refine GX37_52 b8 dX37_choose_162 rfl ?_
    refine w_iload_n dX37_choose_165 rfl rfl ?_
    obtain ⟨x9, b10, hf⟩ := Option.bind_eq_some_iff.mp hf
    refine x_rI b10 dX37_choose_166 ?_
    refine w_iload_n dX37_choose_167 rfl rfl ?_
    refine x_cnI hf (e_stS (Yc := YX37_apart) (av := [.int x9, .int l2]) (st := []) dX37_choose_168 q5864 mX37_apart) mX37_apart.2.2.1 mX37_apart.2.2.2.2.1 (Nat.le_of_ble_eq_true rfl) (Nat.le_of_ble_eq_true rfl) (fun q hq => pX37_apart (by omega) hq) (fun q11 hf => ?_)
    refine w_istore dX37_choose_171 (by decide) (ls' := [some (.ref l0), some (.int l1), some (.int l2), some (.int l3), some (.int l4), some (.int s0), some (.int q6.1), some (.int q11.1)]) rfl ?_
    refine w_iload dX37_choose_173 rfl ?_
    refine w_iload dX37_choose_175 rfl ?_
    refine w_icmp_lt 213 dX37_choose_177 (by decide) (fun c12 => ?_) (fun c12 => ?_)
    · replace hf := (if_pos (show q6.1 < q11.1 from c12)).symm.trans hf
      exact (pX37_choose_b213 hd hk86 hf).to ⟨rfl, rfl, rfl, rfl, trivial⟩
    · replace hf := (if_neg (show ¬ (q6.1 < q11.1) from c12)).symm.trans hf
      refine w_iload dX37_choose_180 rfl ?_
      refine w_iload dX37_choose_182 rfl ?_
      refine w_icmp_ne 218 dX37_choose_184 (by decide) (fun c13 => ?_) (fun c13 => ?_)
      · replace hf := (if_pos (show ¬ q6.1 = q11.1 from c13)).symm.trans hf
        exact (pX37_choose_b218 hd hk86 hf).to ⟨rfl, rfl, rfl, rfl, rfl, trivial⟩
      · replace hf := (if_neg (show ¬ (¬ q6.1 = q11.1) from (fun z => z c13))).symm.trans hf
        refine w_aload_n dX37_choose_187 rfl rfl ?_
        obtain ⟨a14, b15, hf⟩ := Option.bind_eq_some_iff.mp hf
        refine GX37_52 b15 dX37_choose_188 rfl ?_
        refine w_iload dX37_choose_191 rfl ?_
        obtain ⟨x16, b17, hf⟩ := Option.bind_eq_some_iff.mp hf
        refine x_rI b17 dX37_choose_193 ?_
        refine w_aload_n dX37_choose_194 rfl rfl ?_
        obtain ⟨a18, b19, hf⟩ := Option.bind_eq_some_iff.mp hf
        refine GX37_52 b19 dX37_choose_195 rfl ?_
        refine w_iload_n dX37_choose_198 rfl rfl ?_
        obtain ⟨x20, b21, hf⟩ := Option.bind_eq_some_iff.mp hf
        refine x_rI b21 dX37_choose_199 ?_
        refine w_icmp_ne 218 dX37_choose_200 (by decide) (fun c22 => ?_) (fun c22 => ?_)
        · replace hf := (if_pos (show ¬ x16 = x20 from c22)).symm.trans hf
          exact (pX37_choose_b218 hd hk86 hf).to ⟨rfl, rfl, rfl, rfl, rfl, trivial⟩
        · replace hf := (if_neg (show ¬ (¬ x16 = x20) from (fun z => z c22))).symm.trans hf
          refine w_aload_n dX37_choose_203 rfl rfl ?_
          refine w_iload dX37_choose_204 rfl ?_
          refine w_iload_n dX37_choose_206 rfl rfl ?_
          obtain ⟨_, b23, hf⟩ := Option.bind_eq_some_iff.mp hf
          refine x_cnI hf (e_stV (Yc := YX37_isLess) (ci := 36) (av := [.int l4, .int l3]) (st := []) dX37_choose_207 q5860 mX37_isLess rfl (k_ok_some b23).1 (k_ok_some b23).2) mX37_isLess.2.2.1 mX37_isLess.2.2.2.2.1 (Nat.le_of_ble_eq_true rfl) (Nat.le_of_ble_eq_true rfl) (fun q hq => pX37_isLess (by omega) hq) (fun q24 hf => ?_)
          refine w_if_eq 218 dX37_choose_210 (by decide) (fun c25 => ?_) (fun c25 => ?_)
          · replace hf := (if_pos (show q24.1 = 0 from c25)).symm.trans hf
            exact (pX37_choose_b218 hd hk86 hf).to ⟨rfl, rfl, rfl, rfl, rfl, trivial⟩
          · replace hf := (if_neg (show ¬ (q24.1 = 0) from c25)).symm.trans hf
            exact (pX37_choose_b213 hd hk86 hf).to ⟨rfl, rfl, rfl, rfl, trivial⟩
def fX37_choose_b140 (N : Nat) (k86 : Nat → Int32 → Int32 → Int32 → Int32 → eH → Option (Int32 × eH)) (l0 : Nat) (l1 : Int32) (l2 : Int32) (l3 : Int32) (l4 : Int32) (h : eH) : Option (Int32 × eH) :=
  fX37_choose_b141 N k86 l0 l1 l2 l3 l4 (0 : Int32) h
theorem pX37_choose_b140 {w : eW} {d : Nat} (hd : 1 ≤ d + 1) {N : Nat} {k86 : Nat → Int32 → Int32 → Int32 → Int32 → eH → Option (Int32 × eH)} (hk86 : ∀ l0 l1 l2 l3 l4 h q, k86 l0 l1 l2 l3 l4 h = some q → wp w (d + 1) YX37_choose 86 [some (.ref l0), some (.int l1), some (.int l2), some (.int l3), some (.int l4), none, none, none] [] h (e_is (e_rn c_I q))) {l0 : Nat} {l1 : Int32} {l2 : Int32} {l3 : Int32} {l4 : Int32} {h : eH} {q} (hf : fX37_choose_b140 N k86 l0 l1 l2 l3 l4 h = some q) : wp w (d + 1) YX37_choose 140 [some (.ref l0), some (.int l1), some (.int l2), some (.int l3), some (.int l4), none, none, none] [] h (e_is (e_rn c_I q)) := by
  unfold fX37_choose_b140 at hf
  refine w_iconst dX37_choose_140 (v := 0) (by decide) ?_
  exact (pX37_choose_b141 hd hk86 hf).to ⟨rfl, rfl, rfl, rfl, rfl, trivial⟩
def fX37_choose_b275 (N : Nat) (s0 : Int32) (h : eH) : Option (Int32 × eH) :=
  some (s0, h)
theorem pX37_choose_b275 {w : eW} {d : Nat} (hd : 1 ≤ d + 1) {N : Nat} {s0 : Int32} {h : eH} {q} (hf : fX37_choose_b275 N s0 h = some q) : wp w (d + 1) YX37_choose 275 [none, none, none, none, none, none, none, none] [.int s0] h (e_is (e_rn c_I q)) := by
  unfold fX37_choose_b275 at hf
  cases hf
  exact w_iret dX37_choose_275 rfl rfl rfl
def fX37_choose_b274 (N : Nat) (l3 : Int32) (h : eH) : Option (Int32 × eH) :=
  fX37_choose_b275 N l3 h
theorem pX37_choose_b274 {w : eW} {d : Nat} (hd : 1 ≤ d + 1) {N : Nat} {l3 : Int32} {h : eH} {q} (hf : fX37_choose_b274 N l3 h = some q) : wp w (d + 1) YX37_choose 274 [none, none, none, some (.int l3), none, none, none, none] [] h (e_is (e_rn c_I q)) := by
  unfold fX37_choose_b274 at hf
  refine w_iload_n dX37_choose_274 rfl rfl ?_
  exact (pX37_choose_b275 hd hf).to trivial
def fX37_choose_b253 (N : Nat) (l0 : Nat) (l2 : Int32) (l3 : Int32) (s0 : Int32) (h : eH) : Option (Int32 × eH) :=
  if ¬ s0 = 0 then
    fX37_choose_b274 N l3 h
  else
    (g_A 36 h l0 24).bind fun a2 =>
    (r_I 100 h a2 l3).bind fun x4 =>
    if x4 = l2 then
      fX37_choose_b274 N l3 h
    else
      fX37_choose_b275 N (-1 : Int32) h
theorem pX37_choose_b253 {w : eW} {d : Nat} (hd : 1 ≤ d + 1) {N : Nat} {l0 : Nat} {l2 : Int32} {l3 : Int32} {s0 : Int32} {h : eH} {q} (hf : fX37_choose_b253 N l0 l2 l3 s0 h = some q) : wp w (d + 1) YX37_choose 253 [some (.ref l0), none, some (.int l2), some (.int l3), none, none, none, none] [.int s0] h (e_is (e_rn c_I q)) := by
  unfold fX37_choose_b253 at hf
  refine w_istore dX37_choose_253 (by decide) (ls' := [some (.ref l0), none, some (.int l2), some (.int l3), some (.int s0), none, none, none]) rfl ?_
  refine w_iload dX37_choose_255 rfl ?_
  refine w_if_ne 274 dX37_choose_257 (by decide) (fun c1 => ?_) (fun c1 => ?_)
  · replace hf := (if_pos (show ¬ s0 = 0 from c1)).symm.trans hf
    exact (pX37_choose_b274 hd hf).to ⟨rfl, trivial⟩
  · replace hf := (if_neg (show ¬ (¬ s0 = 0) from (fun z => z c1))).symm.trans hf
    refine w_aload_n dX37_choose_260 rfl rfl ?_
    obtain ⟨a2, b3, hf⟩ := Option.bind_eq_some_iff.mp hf
    refine GX37_52 b3 dX37_choose_261 rfl ?_
    refine w_iload_n dX37_choose_264 rfl rfl ?_
    obtain ⟨x4, b5, hf⟩ := Option.bind_eq_some_iff.mp hf
    refine x_rI b5 dX37_choose_265 ?_
    refine w_iload_n dX37_choose_266 rfl rfl ?_
    refine w_icmp_eq 274 dX37_choose_267 (by decide) (fun c6 => ?_) (fun c6 => ?_)
    · replace hf := (if_pos (show x4 = l2 from c6)).symm.trans hf
      exact (pX37_choose_b274 hd hf).to ⟨rfl, trivial⟩
    · replace hf := (if_neg (show ¬ (x4 = l2) from c6)).symm.trans hf
      refine w_iconst dX37_choose_270 (v := -1) (by decide) ?_
      refine w_goto 275 dX37_choose_271 (by decide) ?_
      exact (pX37_choose_b275 hd hf).to trivial
def fX37_choose_b245 (N : Nat) (l0 : Nat) (l2 : Int32) (l3 : Int32) (s0 : Int32) (s1 : Int32) (h : eH) : Option (Int32 × eH) :=
  if ¬ s0 = s1 then
    fX37_choose_b253 N l0 l2 l3 (0 : Int32) h
  else
    fX37_choose_b253 N l0 l2 l3 (1 : Int32) h
theorem pX37_choose_b245 {w : eW} {d : Nat} (hd : 1 ≤ d + 1) {N : Nat} {l0 : Nat} {l2 : Int32} {l3 : Int32} {s0 : Int32} {s1 : Int32} {h : eH} {q} (hf : fX37_choose_b245 N l0 l2 l3 s0 s1 h = some q) : wp w (d + 1) YX37_choose 245 [some (.ref l0), none, some (.int l2), some (.int l3), none, none, none, none] [.int s1, .int s0] h (e_is (e_rn c_I q)) := by
  unfold fX37_choose_b245 at hf
  refine w_icmp_ne 252 dX37_choose_245 (by decide) (fun c1 => ?_) (fun c1 => ?_)
  · replace hf := (if_pos (show ¬ s0 = s1 from c1)).symm.trans hf
    refine w_iconst dX37_choose_252 (v := 0) (by decide) ?_
    exact (pX37_choose_b253 hd hf).to ⟨rfl, rfl, rfl, trivial⟩
  · replace hf := (if_neg (show ¬ (¬ s0 = s1) from (fun z => z c1))).symm.trans hf
    refine w_iconst dX37_choose_248 (v := 1) (by decide) ?_
    refine w_goto 253 dX37_choose_249 (by decide) ?_
    exact (pX37_choose_b253 hd hf).to ⟨rfl, rfl, rfl, trivial⟩
def fX37_choose_b86 (N : Nat) : Nat → Nat → Int32 → Int32 → Int32 → Int32 → eH → Option (Int32 × eH)
  | 0, _, _, _, _, _, _ => none
  | n + 1, l0, l1, l2, l3, l4, h =>
    (g_I 36 h l0 20).bind fun x1 =>
    if x1 < l4 then
      (g_I 36 h l0 16).bind fun x4 =>
      (g_A 36 h l0 10).bind fun a6 =>
      (r_I 100 h a6 (8 : Int32)).bind fun x8 =>
      if x8 ≤ 0 then
        fX37_choose_b245 N l0 l2 l3 x4 (2 : Int32) h
      else
        fX37_choose_b245 N l0 l2 l3 x4 (3 : Int32) h
    else
      (g_A 36 h l0 23).bind fun a11 =>
      (r_I 100 h a11 l4).bind fun x13 =>
      (g_I 36 h l0 17).bind fun x15 =>
      if ¬ x13 = x15 then
        fX37_choose_b140 N (fX37_choose_b86 N n) l0 l1 l2 l3 l4 h
      else
        (g_A 36 h l0 24).bind fun a18 =>
        (r_I 100 h a18 l4).bind fun x20 =>
        (g_A 36 h l0 24).bind fun a22 =>
        (r_I 100 h a22 l1).bind fun x24 =>
        (g_A 36 h l0 24).bind fun a26 =>
        (r_I 100 h a26 l4).bind fun x28 =>
        if 0 < ((x20 - x24) * (x28 - l2)) then
          fX37_choose_b140 N (fX37_choose_b86 N n) l0 l1 l2 l3 l4 h
        else
          fX37_choose_b141 N (fX37_choose_b86 N n) l0 l1 l2 l3 l4 (1 : Int32) h
theorem pX37_choose_b86 {w : eW} {d : Nat} (hd : 1 ≤ d + 1) {N : Nat} : ∀ (n : Nat) l0 l1 l2 l3 l4 h q, fX37_choose_b86 N n l0 l1 l2 l3 l4 h = some q → wp w (d + 1) YX37_choose 86 [some (.ref l0), some (.int l1), some (.int l2), some (.int l3), some (.int l4), none, none, none] [] h (e_is (e_rn c_I q)) := by
  intro n
  induction n with
  | zero => intro l0 l1 l2 l3 l4 h q hf; simp [fX37_choose_b86] at hf
  | succ n ih =>
    intro l0 l1 l2 l3 l4 h q hf
    rw [fX37_choose_b86] at hf
    refine w_iload dX37_choose_86 rfl ?_
    refine w_aload_n dX37_choose_88 rfl rfl ?_
    obtain ⟨x1, b2, hf⟩ := Option.bind_eq_some_iff.mp hf
    refine GX37_185 b2 dX37_choose_89 rfl ?_
    refine w_icmp_gt 226 dX37_choose_92 (by decide) (fun c3 => ?_) (fun c3 => ?_)
    · replace hf := (if_pos (show x1 < l4 from c3)).symm.trans hf
      refine w_aload_n dX37_choose_226 rfl rfl ?_
      obtain ⟨x4, b5, hf⟩ := Option.bind_eq_some_iff.mp hf
      refine GX37_122 b5 dX37_choose_227 rfl ?_
      refine w_aload_n dX37_choose_230 rfl rfl ?_
      obtain ⟨a6, b7, hf⟩ := Option.bind_eq_some_iff.mp hf
      refine GX37_34 b7 dX37_choose_231 rfl ?_
      refine w_bipush dX37_choose_234 (v := 8) (by decide) ?_
      obtain ⟨x8, b9, hf⟩ := Option.bind_eq_some_iff.mp hf
      refine x_rI b9 dX37_choose_236 ?_
      refine w_if_le 244 dX37_choose_237 (by decide) (fun c10 => ?_) (fun c10 => ?_)
      · replace hf := (if_pos (show x8 ≤ 0 from c10)).symm.trans hf
        refine w_iconst dX37_choose_244 (v := 2) (by decide) ?_
        exact (pX37_choose_b245 hd hf).to ⟨rfl, rfl, rfl, trivial⟩
      · replace hf := (if_neg (show ¬ (x8 ≤ 0) from c10)).symm.trans hf
        refine w_iconst dX37_choose_240 (v := 3) (by decide) ?_
        refine w_goto 245 dX37_choose_241 (by decide) ?_
        exact (pX37_choose_b245 hd hf).to ⟨rfl, rfl, rfl, trivial⟩
    · replace hf := (if_neg (show ¬ (x1 < l4) from c3)).symm.trans hf
      refine w_aload_n dX37_choose_95 rfl rfl ?_
      obtain ⟨a11, b12, hf⟩ := Option.bind_eq_some_iff.mp hf
      refine GX37_49 b12 dX37_choose_96 rfl ?_
      refine w_iload dX37_choose_99 rfl ?_
      obtain ⟨x13, b14, hf⟩ := Option.bind_eq_some_iff.mp hf
      refine x_rI b14 dX37_choose_101 ?_
      refine w_aload_n dX37_choose_102 rfl rfl ?_
      obtain ⟨x15, b16, hf⟩ := Option.bind_eq_some_iff.mp hf
      refine GX37_119 b16 dX37_choose_103 rfl ?_
      refine w_icmp_ne 140 dX37_choose_106 (by decide) (fun c17 => ?_) (fun c17 => ?_)
      · replace hf := (if_pos (show ¬ x13 = x15 from c17)).symm.trans hf
        exact (pX37_choose_b140 hd ih hf).to ⟨rfl, rfl, rfl, rfl, rfl, trivial⟩
      · replace hf := (if_neg (show ¬ (¬ x13 = x15) from (fun z => z c17))).symm.trans hf
        refine w_aload_n dX37_choose_109 rfl rfl ?_
        obtain ⟨a18, b19, hf⟩ := Option.bind_eq_some_iff.mp hf
        refine GX37_52 b19 dX37_choose_110 rfl ?_
        refine w_iload dX37_choose_113 rfl ?_
        obtain ⟨x20, b21, hf⟩ := Option.bind_eq_some_iff.mp hf
        refine x_rI b21 dX37_choose_115 ?_
        refine w_aload_n dX37_choose_116 rfl rfl ?_
        obtain ⟨a22, b23, hf⟩ := Option.bind_eq_some_iff.mp hf
        refine GX37_52 b23 dX37_choose_117 rfl ?_
        refine w_iload_n dX37_choose_120 rfl rfl ?_
        obtain ⟨x24, b25, hf⟩ := Option.bind_eq_some_iff.mp hf
        refine x_rI b25 dX37_choose_121 ?_
        refine w_isub dX37_choose_122 ?_
        refine w_aload_n dX37_choose_123 rfl rfl ?_
        obtain ⟨a26, b27, hf⟩ := Option.bind_eq_some_iff.mp hf
        refine GX37_52 b27 dX37_choose_124 rfl ?_
        refine w_iload dX37_choose_127 rfl ?_
        obtain ⟨x28, b29, hf⟩ := Option.bind_eq_some_iff.mp hf
        refine x_rI b29 dX37_choose_129 ?_
        refine w_iload_n dX37_choose_130 rfl rfl ?_
        refine w_isub dX37_choose_131 ?_
        refine w_imul dX37_choose_132 ?_
        refine w_if_gt 140 dX37_choose_133 (by decide) (fun c30 => ?_) (fun c30 => ?_)
        · replace hf := (if_pos (show 0 < ((x20 - x24) * (x28 - l2)) from c30)).symm.trans hf
          exact (pX37_choose_b140 hd ih hf).to ⟨rfl, rfl, rfl, rfl, rfl, trivial⟩
        · replace hf := (if_neg (show ¬ (0 < ((x20 - x24) * (x28 - l2))) from c30)).symm.trans hf
          refine w_iconst dX37_choose_136 (v := 1) (by decide) ?_
          refine w_goto 141 dX37_choose_137 (by decide) ?_
          exact (pX37_choose_b141 hd ih hf).to ⟨rfl, rfl, rfl, rfl, rfl, trivial⟩
def fX37_choose_b4 (N : Nat) : Nat → Nat → Int32 → Int32 → eH → Option (Int32 × eH)
  | 0, _, _, _, _ => none
  | n + 1, l0, l1, l2, h =>
    (g_I 36 h l0 20).bind fun x1 =>
    if x1 < l2 then
      if l1 < 0 then
        fX37_choose_b64 N l1 h
      else
        (g_A 36 h l0 10).bind fun a5 =>
        (r_I 100 h a5 (9 : Int32)).bind fun x7 =>
        if ¬ x7 = 0 then
          (g_A 36 h l0 24).bind fun a10 =>
          (r_I 100 h a10 l1).bind fun x12 =>
          (g_A 36 h l0 10).bind fun a14 =>
          (r_I 100 h a14 (9 : Int32)).bind fun x16 =>
          fX37_choose_b86 N N l0 l1 (x12 + x16) l1 (1 : Int32) h
        else
          fX37_choose_b64 N l1 h
    else
      (g_A 36 h l0 23).bind fun a18 =>
      (r_I 100 h a18 l2).bind fun x20 =>
      (g_I 36 h l0 17).bind fun x22 =>
      if ¬ x20 = x22 then
        fX37_choose_b42 N (fX37_choose_b4 N n) l0 l1 l2 h
      else
        if l1 < 0 then
          fX37_choose_b38 N (fX37_choose_b4 N n) l0 l2 h
        else
          (k_ok 36 h l0).bind fun _ =>
          (fX37_isLess l0 l2 l1 h).bind fun q27 =>
          if q27.1 = 0 then
            fX37_choose_b42 N (fX37_choose_b4 N n) l0 l1 l2 q27.2
          else
            fX37_choose_b38 N (fX37_choose_b4 N n) l0 l2 q27.2
theorem pX37_choose_b4 {w : eW} {d : Nat} (hd : 1 ≤ d + 1) {N : Nat} : ∀ (n : Nat) l0 l1 l2 h q, fX37_choose_b4 N n l0 l1 l2 h = some q → wp w (d + 1) YX37_choose 4 [some (.ref l0), some (.int l1), some (.int l2), none, none, none, none, none] [] h (e_is (e_rn c_I q)) := by
  intro n
  induction n with
  | zero => intro l0 l1 l2 h q hf; simp [fX37_choose_b4] at hf
  | succ n ih =>
    intro l0 l1 l2 h q hf
    rw [fX37_choose_b4] at hf
    refine w_iload_n dX37_choose_4 rfl rfl ?_
    refine w_aload_n dX37_choose_5 rfl rfl ?_
    obtain ⟨x1, b2, hf⟩ := Option.bind_eq_some_iff.mp hf
    refine GX37_185 b2 dX37_choose_6 rfl ?_
    refine w_icmp_gt 50 dX37_choose_9 (by decide) (fun c3 => ?_) (fun c3 => ?_)
    · replace hf := (if_pos (show x1 < l2 from c3)).symm.trans hf
      refine w_iload_n dX37_choose_50 rfl rfl ?_
      refine w_if_lt 64 dX37_choose_51 (by decide) (fun c4 => ?_) (fun c4 => ?_)
      · replace hf := (if_pos (show l1 < 0 from c4)).symm.trans hf
        exact (pX37_choose_b64 hd hf).to ⟨rfl, trivial⟩
      · replace hf := (if_neg (show ¬ (l1 < 0) from c4)).symm.trans hf
        refine w_aload_n dX37_choose_54 rfl rfl ?_
        obtain ⟨a5, b6, hf⟩ := Option.bind_eq_some_iff.mp hf
        refine GX37_34 b6 dX37_choose_55 rfl ?_
        refine w_bipush dX37_choose_58 (v := 9) (by decide) ?_
        obtain ⟨x7, b8, hf⟩ := Option.bind_eq_some_iff.mp hf
        refine x_rI b8 dX37_choose_60 ?_
        refine w_if_ne 66 dX37_choose_61 (by decide) (fun c9 => ?_) (fun c9 => ?_)
        · replace hf := (if_pos (show ¬ x7 = 0 from c9)).symm.trans hf
          refine w_aload_n dX37_choose_66 rfl rfl ?_
          obtain ⟨a10, b11, hf⟩ := Option.bind_eq_some_iff.mp hf
          refine GX37_52 b11 dX37_choose_67 rfl ?_
          refine w_iload_n dX37_choose_70 rfl rfl ?_
          obtain ⟨x12, b13, hf⟩ := Option.bind_eq_some_iff.mp hf
          refine x_rI b13 dX37_choose_71 ?_
          refine w_aload_n dX37_choose_72 rfl rfl ?_
          obtain ⟨a14, b15, hf⟩ := Option.bind_eq_some_iff.mp hf
          refine GX37_34 b15 dX37_choose_73 rfl ?_
          refine w_bipush dX37_choose_76 (v := 9) (by decide) ?_
          obtain ⟨x16, b17, hf⟩ := Option.bind_eq_some_iff.mp hf
          refine x_rI b17 dX37_choose_78 ?_
          refine w_iadd dX37_choose_79 ?_
          refine w_istore_n dX37_choose_80 rfl (by decide) (ls' := [some (.ref l0), some (.int l1), some (.int (x12 + x16)), none, none, none, none, none]) rfl ?_
          refine w_iload_n dX37_choose_81 rfl rfl ?_
          refine w_istore_n dX37_choose_82 rfl (by decide) (ls' := [some (.ref l0), some (.int l1), some (.int (x12 + x16)), some (.int l1), none, none, none, none]) rfl ?_
          refine w_iconst dX37_choose_83 (v := 1) (by decide) ?_
          refine w_istore dX37_choose_84 (by decide) (ls' := [some (.ref l0), some (.int l1), some (.int (x12 + x16)), some (.int l1), some (.int (1 : Int32)), none, none, none]) rfl ?_
          exact (pX37_choose_b86 hd N _ _ _ _ _ _ _ hf).to ⟨rfl, rfl, rfl, rfl, rfl, trivial⟩
        · replace hf := (if_neg (show ¬ (¬ x7 = 0) from (fun z => z c9))).symm.trans hf
          exact (pX37_choose_b64 hd hf).to ⟨rfl, trivial⟩
    · replace hf := (if_neg (show ¬ (x1 < l2) from c3)).symm.trans hf
      refine w_aload_n dX37_choose_12 rfl rfl ?_
      obtain ⟨a18, b19, hf⟩ := Option.bind_eq_some_iff.mp hf
      refine GX37_49 b19 dX37_choose_13 rfl ?_
      refine w_iload_n dX37_choose_16 rfl rfl ?_
      obtain ⟨x20, b21, hf⟩ := Option.bind_eq_some_iff.mp hf
      refine x_rI b21 dX37_choose_17 ?_
      refine w_aload_n dX37_choose_18 rfl rfl ?_
      obtain ⟨x22, b23, hf⟩ := Option.bind_eq_some_iff.mp hf
      refine GX37_119 b23 dX37_choose_19 rfl ?_
      refine w_icmp_ne 42 dX37_choose_22 (by decide) (fun c24 => ?_) (fun c24 => ?_)
      · replace hf := (if_pos (show ¬ x20 = x22 from c24)).symm.trans hf
        exact (pX37_choose_b42 hd ih hf).to ⟨rfl, rfl, rfl, trivial⟩
      · replace hf := (if_neg (show ¬ (¬ x20 = x22) from (fun z => z c24))).symm.trans hf
        refine w_iload_n dX37_choose_25 rfl rfl ?_
        refine w_if_lt 38 dX37_choose_26 (by decide) (fun c25 => ?_) (fun c25 => ?_)
        · replace hf := (if_pos (show l1 < 0 from c25)).symm.trans hf
          exact (pX37_choose_b38 hd ih hf).to ⟨rfl, rfl, trivial⟩
        · replace hf := (if_neg (show ¬ (l1 < 0) from c25)).symm.trans hf
          refine w_aload_n dX37_choose_29 rfl rfl ?_
          refine w_iload_n dX37_choose_30 rfl rfl ?_
          refine w_iload_n dX37_choose_31 rfl rfl ?_
          obtain ⟨_, b26, hf⟩ := Option.bind_eq_some_iff.mp hf
          refine x_cnI hf (e_stV (Yc := YX37_isLess) (ci := 36) (av := [.int l2, .int l1]) (st := []) dX37_choose_32 q5860 mX37_isLess rfl (k_ok_some b26).1 (k_ok_some b26).2) mX37_isLess.2.2.1 mX37_isLess.2.2.2.2.1 (Nat.le_of_ble_eq_true rfl) (Nat.le_of_ble_eq_true rfl) (fun q hq => pX37_isLess (by omega) hq) (fun q27 hf => ?_)
          refine w_if_eq 42 dX37_choose_35 (by decide) (fun c28 => ?_) (fun c28 => ?_)
          · replace hf := (if_pos (show q27.1 = 0 from c28)).symm.trans hf
            exact (pX37_choose_b42 hd ih hf).to ⟨rfl, rfl, rfl, trivial⟩
          · replace hf := (if_neg (show ¬ (q27.1 = 0) from c28)).symm.trans hf
            exact (pX37_choose_b38 hd ih hf).to ⟨rfl, rfl, trivial⟩
def fX37_choose (N : Nat) (this : Nat) (h : eH) : Option (Int32 × eH) :=
  fX37_choose_b4 N N this (-1 : Int32) (1 : Int32) h
theorem pX37_choose {w : eW} {d : Nat} (hd : 1 ≤ d) {N : Nat} {this : Nat} {h : eH} {q} (hf : fX37_choose N this h = some q) : wm w d YX37_choose [.ref this] h (e_is (e_rn c_I q)) := by
  obtain ⟨d, rfl⟩ : ∃ e, d = e + 1 := ⟨d - 1, by omega⟩
  show wp w (d + 1) YX37_choose 0 [some (.ref this), none, none, none, none, none, none, none] [] h _
  unfold fX37_choose at hf
  refine w_iconst dX37_choose_0 (v := -1) (by decide) ?_
  refine w_istore_n dX37_choose_1 rfl (by decide) (ls' := [some (.ref this), some (.int (-1 : Int32)), none, none, none, none, none, none]) rfl ?_
  refine w_iconst dX37_choose_2 (v := 1) (by decide) ?_
  refine w_istore_n dX37_choose_3 rfl (by decide) (ls' := [some (.ref this), some (.int (-1 : Int32)), some (.int (1 : Int32)), none, none, none, none, none]) rfl ?_
  exact (pX37_choose_b4 hd N _ _ _ _ _ hf).to ⟨rfl, rfl, rfl, trivial⟩
abbrev cX37_tell : ByteArray := prog_38_method_24_code
def yX37_tell : MethodName := ⟨RX37, "tell", "(I)I"⟩
def YX37_tell : eY := (yX37_tell, cX37_tell, 4, (Option.some FieldType.int), [])
theorem mX37_tell : e_mv YX37_tell RX37 1 := ⟨q5869, qs388, q5870, by decide, by decide +kernel, (e_sig (by decide +kernel))⟩
theorem dX37_tell_0 : decode cX37_tell 0 = .ok (.aload_n 0, 1) := dc_42 (by decide +kernel)
theorem dX37_tell_1 : decode cX37_tell 1 = .ok (.aload_n 0, 1) := dc_42 (by decide +kernel)
theorem dX37_tell_2 : decode cX37_tell 2 = .ok (.getfield 122, 3) := dc_180 (a := 0) (b := 122) (n := 122) (by decide +kernel)
theorem dX37_tell_5 : decode cX37_tell 5 = .ok (.putfield 108, 3) := dc_181 (a := 0) (b := 108) (n := 108) (by decide +kernel)
theorem dX37_tell_8 : decode cX37_tell 8 = .ok (.aload_n 0, 1) := dc_42 (by decide +kernel)
theorem dX37_tell_9 : decode cX37_tell 9 = .ok (.aload_n 0, 1) := dc_42 (by decide +kernel)
theorem dX37_tell_10 : decode cX37_tell 10 = .ok (.getfield 185, 3) := dc_180 (a := 0) (b := 185) (n := 185) (by decide +kernel)
theorem dX37_tell_13 : decode cX37_tell 13 = .ok (.putfield 232, 3) := dc_181 (a := 0) (b := 232) (n := 232) (by decide +kernel)
theorem dX37_tell_16 : decode cX37_tell 16 = .ok (.aload_n 0, 1) := dc_42 (by decide +kernel)
theorem dX37_tell_17 : decode cX37_tell 17 = .ok (.aload_n 0, 1) := dc_42 (by decide +kernel)
theorem dX37_tell_18 : decode cX37_tell 18 = .ok (.getfield 52, 3) := dc_180 (a := 0) (b := 52) (n := 52) (by decide +kernel)
theorem dX37_tell_21 : decode cX37_tell 21 = .ok (.iload_n 1, 1) := dc_27 (by decide +kernel)
theorem dX37_tell_22 : decode cX37_tell 22 = .ok (.iaload, 1) := dc_46 (by decide +kernel)
theorem dX37_tell_23 : decode cX37_tell 23 = .ok (.putfield 235, 3) := dc_181 (a := 0) (b := 235) (n := 235) (by decide +kernel)
theorem dX37_tell_26 : decode cX37_tell 26 = .ok (.iload_n 1, 1) := dc_27 (by decide +kernel)
theorem dX37_tell_27 : decode cX37_tell 27 = .ok (.istore_n 2, 1) := dc_61 (by decide +kernel)
theorem dX37_tell_28 : decode cX37_tell 28 = .ok (.iload_n 2, 1) := dc_28 (by decide +kernel)
theorem dX37_tell_29 : decode cX37_tell 29 = .ok (.ifCond .le 112, 3) := dc_158 (a := 0) (b := 112) (v := 112) (by decide +kernel)
theorem dX37_tell_32 : decode cX37_tell 32 = .ok (.aload_n 0, 1) := dc_42 (by decide +kernel)
theorem dX37_tell_33 : decode cX37_tell 33 = .ok (.getfield 52, 3) := dc_180 (a := 0) (b := 52) (n := 52) (by decide +kernel)
theorem dX37_tell_36 : decode cX37_tell 36 = .ok (.iload_n 2, 1) := dc_28 (by decide +kernel)
theorem dX37_tell_37 : decode cX37_tell 37 = .ok (.iaload, 1) := dc_46 (by decide +kernel)
theorem dX37_tell_38 : decode cX37_tell 38 = .ok (.iconst 1, 1) := dc_4 (by decide +kernel)
theorem dX37_tell_39 : decode cX37_tell 39 = .ok (.isub, 1) := dc_100 (by decide +kernel)
theorem dX37_tell_40 : decode cX37_tell 40 = .ok (.istore_n 3, 1) := dc_62 (by decide +kernel)
theorem dX37_tell_41 : decode cX37_tell 41 = .ok (.aload_n 0, 1) := dc_42 (by decide +kernel)
theorem dX37_tell_42 : decode cX37_tell 42 = .ok (.aload_n 0, 1) := dc_42 (by decide +kernel)
theorem dX37_tell_43 : decode cX37_tell 43 = .ok (.getfield 49, 3) := dc_180 (a := 0) (b := 49) (n := 49) (by decide +kernel)
theorem dX37_tell_46 : decode cX37_tell 46 = .ok (.aload_n 0, 1) := dc_42 (by decide +kernel)
theorem dX37_tell_47 : decode cX37_tell 47 = .ok (.getfield 62, 3) := dc_180 (a := 0) (b := 62) (n := 62) (by decide +kernel)
theorem dX37_tell_50 : decode cX37_tell 50 = .ok (.iload_n 2, 1) := dc_28 (by decide +kernel)
theorem dX37_tell_51 : decode cX37_tell 51 = .ok (.iaload, 1) := dc_46 (by decide +kernel)
theorem dX37_tell_52 : decode cX37_tell 52 = .ok (.iaload, 1) := dc_46 (by decide +kernel)
theorem dX37_tell_53 : decode cX37_tell 53 = .ok (.aload_n 0, 1) := dc_42 (by decide +kernel)
theorem dX37_tell_54 : decode cX37_tell 54 = .ok (.getfield 49, 3) := dc_180 (a := 0) (b := 49) (n := 49) (by decide +kernel)
theorem dX37_tell_57 : decode cX37_tell 57 = .ok (.iload_n 2, 1) := dc_28 (by decide +kernel)
theorem dX37_tell_58 : decode cX37_tell 58 = .ok (.iaload, 1) := dc_46 (by decide +kernel)
theorem dX37_tell_59 : decode cX37_tell 59 = .ok (.invokevirtual 196, 3) := dc_182 (a := 0) (b := 196) (n := 196) (by decide +kernel)
theorem dX37_tell_62 : decode cX37_tell 62 = .ok (.aload_n 0, 1) := dc_42 (by decide +kernel)
theorem dX37_tell_63 : decode cX37_tell 63 = .ok (.iload_n 3, 1) := dc_29 (by decide +kernel)
theorem dX37_tell_64 : decode cX37_tell 64 = .ok (.invokevirtual 200, 3) := dc_182 (a := 0) (b := 200) (n := 200) (by decide +kernel)
theorem dX37_tell_67 : decode cX37_tell 67 = .ok (.aload_n 0, 1) := dc_42 (by decide +kernel)
theorem dX37_tell_68 : decode cX37_tell 68 = .ok (.getfield 72, 3) := dc_180 (a := 0) (b := 72) (n := 72) (by decide +kernel)
theorem dX37_tell_71 : decode cX37_tell 71 = .ok (.iload_n 3, 1) := dc_29 (by decide +kernel)
theorem dX37_tell_72 : decode cX37_tell 72 = .ok (.aload_n 0, 1) := dc_42 (by decide +kernel)
theorem dX37_tell_73 : decode cX37_tell 73 = .ok (.getfield 49, 3) := dc_180 (a := 0) (b := 49) (n := 49) (by decide +kernel)
theorem dX37_tell_76 : decode cX37_tell 76 = .ok (.iload_n 2, 1) := dc_28 (by decide +kernel)
theorem dX37_tell_77 : decode cX37_tell 77 = .ok (.iaload, 1) := dc_46 (by decide +kernel)
theorem dX37_tell_78 : decode cX37_tell 78 = .ok (.iastore, 1) := dc_79 (by decide +kernel)
theorem dX37_tell_79 : decode cX37_tell 79 = .ok (.aload_n 0, 1) := dc_42 (by decide +kernel)
theorem dX37_tell_80 : decode cX37_tell 80 = .ok (.getfield 75, 3) := dc_180 (a := 0) (b := 75) (n := 75) (by decide +kernel)
theorem dX37_tell_83 : decode cX37_tell 83 = .ok (.iload_n 3, 1) := dc_29 (by decide +kernel)
theorem dX37_tell_84 : decode cX37_tell 84 = .ok (.aload_n 0, 1) := dc_42 (by decide +kernel)
theorem dX37_tell_85 : decode cX37_tell 85 = .ok (.getfield 135, 3) := dc_180 (a := 0) (b := 135) (n := 135) (by decide +kernel)
theorem dX37_tell_88 : decode cX37_tell 88 = .ok (.iastore, 1) := dc_79 (by decide +kernel)
theorem dX37_tell_89 : decode cX37_tell 89 = .ok (.aload_n 0, 1) := dc_42 (by decide +kernel)
theorem dX37_tell_90 : decode cX37_tell 90 = .ok (.getfield 78, 3) := dc_180 (a := 0) (b := 78) (n := 78) (by decide +kernel)
theorem dX37_tell_93 : decode cX37_tell 93 = .ok (.iload_n 3, 1) := dc_29 (by decide +kernel)
theorem dX37_tell_94 : decode cX37_tell 94 = .ok (.aload_n 0, 1) := dc_42 (by decide +kernel)
theorem dX37_tell_95 : decode cX37_tell 95 = .ok (.getfield 162, 3) := dc_180 (a := 0) (b := 162) (n := 162) (by decide +kernel)
theorem dX37_tell_98 : decode cX37_tell 98 = .ok (.iastore, 1) := dc_79 (by decide +kernel)
theorem dX37_tell_99 : decode cX37_tell 99 = .ok (.aload_n 0, 1) := dc_42 (by decide +kernel)
theorem dX37_tell_100 : decode cX37_tell 100 = .ok (.getfield 81, 3) := dc_180 (a := 0) (b := 81) (n := 81) (by decide +kernel)
theorem dX37_tell_103 : decode cX37_tell 103 = .ok (.iload_n 3, 1) := dc_29 (by decide +kernel)
theorem dX37_tell_104 : decode cX37_tell 104 = .ok (.aload_n 0, 1) := dc_42 (by decide +kernel)
theorem dX37_tell_105 : decode cX37_tell 105 = .ok (.getfield 169, 3) := dc_180 (a := 0) (b := 169) (n := 169) (by decide +kernel)
theorem dX37_tell_108 : decode cX37_tell 108 = .ok (.iastore, 1) := dc_79 (by decide +kernel)
theorem dX37_tell_109 : decode cX37_tell 109 = .ok (.aload_n 0, 1) := dc_42 (by decide +kernel)
theorem dX37_tell_110 : decode cX37_tell 110 = .ok (.getfield 84, 3) := dc_180 (a := 0) (b := 84) (n := 84) (by decide +kernel)
theorem dX37_tell_113 : decode cX37_tell 113 = .ok (.iload_n 3, 1) := dc_29 (by decide +kernel)
theorem dX37_tell_114 : decode cX37_tell 114 = .ok (.aload_n 0, 1) := dc_42 (by decide +kernel)
theorem dX37_tell_115 : decode cX37_tell 115 = .ok (.getfield 172, 3) := dc_180 (a := 0) (b := 172) (n := 172) (by decide +kernel)
theorem dX37_tell_118 : decode cX37_tell 118 = .ok (.iastore, 1) := dc_79 (by decide +kernel)
theorem dX37_tell_119 : decode cX37_tell 119 = .ok (.aload_n 0, 1) := dc_42 (by decide +kernel)
theorem dX37_tell_120 : decode cX37_tell 120 = .ok (.getfield 87, 3) := dc_180 (a := 0) (b := 87) (n := 87) (by decide +kernel)
theorem dX37_tell_123 : decode cX37_tell 123 = .ok (.iload_n 3, 1) := dc_29 (by decide +kernel)
theorem dX37_tell_124 : decode cX37_tell 124 = .ok (.aload_n 0, 1) := dc_42 (by decide +kernel)
theorem dX37_tell_125 : decode cX37_tell 125 = .ok (.getfield 58, 3) := dc_180 (a := 0) (b := 58) (n := 58) (by decide +kernel)
theorem dX37_tell_128 : decode cX37_tell 128 = .ok (.iload_n 2, 1) := dc_28 (by decide +kernel)
theorem dX37_tell_129 : decode cX37_tell 129 = .ok (.laload, 1) := dc_47 (by decide +kernel)
theorem dX37_tell_130 : decode cX37_tell 130 = .ok (.lastore, 1) := dc_80 (by decide +kernel)
theorem dX37_tell_131 : decode cX37_tell 131 = .ok (.aload_n 0, 1) := dc_42 (by decide +kernel)
theorem dX37_tell_132 : decode cX37_tell 132 = .ok (.getfield 62, 3) := dc_180 (a := 0) (b := 62) (n := 62) (by decide +kernel)
theorem dX37_tell_135 : decode cX37_tell 135 = .ok (.iload_n 2, 1) := dc_28 (by decide +kernel)
theorem dX37_tell_136 : decode cX37_tell 136 = .ok (.iaload, 1) := dc_46 (by decide +kernel)
theorem dX37_tell_137 : decode cX37_tell 137 = .ok (.istore_n 2, 1) := dc_61 (by decide +kernel)
theorem dX37_tell_138 : decode cX37_tell 138 = .ok (.goto (-110), 3) := dc_167 (a := 255) (b := 146) (v := -110) (by decide +kernel)
theorem dX37_tell_141 : decode cX37_tell 141 = .ok (.aload_n 0, 1) := dc_42 (by decide +kernel)
theorem dX37_tell_142 : decode cX37_tell 142 = .ok (.getfield 235, 3) := dc_180 (a := 0) (b := 235) (n := 235) (by decide +kernel)
theorem dX37_tell_145 : decode cX37_tell 145 = .ok (.ireturn, 1) := dc_172 (by decide +kernel)
theorem GX37_162 {w : eW} {d : Nat} {Y : eY} {pc : Nat} {ls : eL} {st : List Value} {h : eH} {Q : eO → eH → Prop} {a : Nat} {x : Int32} (hf : g_I 36 h a 33 = some x) (hd : decode Y.2.1 pc = .ok (.getfield 162, 3)) (hY : Y.1.cls = RX37) (kk : wp w d Y (pc + 3) ls (.int x :: st) h Q) : wp w d Y pc ls (.ref a :: st) h Q := x_gI (ci := 36) (k := 33) hf hd rfl (by decide) (by rw [hY]; exact q4268) kk
theorem GX37_235 {w : eW} {d : Nat} {Y : eY} {pc : Nat} {ls : eL} {st : List Value} {h : eH} {Q : eO → eH → Prop} {a : Nat} {x : Int32} (hf : g_I 36 h a 38 = some x) (hd : decode Y.2.1 pc = .ok (.getfield 235, 3)) (hY : Y.1.cls = RX37) (kk : wp w d Y (pc + 3) ls (.int x :: st) h Q) : wp w d Y pc ls (.ref a :: st) h Q := x_gI (ci := 36) (k := 38) hf hd rfl (by decide) (by rw [hY]; exact q4273) kk
theorem GX37_72 {w : eW} {d : Nat} {Y : eY} {pc : Nat} {ls : eL} {st : List Value} {h : eH} {Q : eO → eH → Prop} {a : Nat} {x : Nat} (hf : g_A 36 h a 39 = some x) (hd : decode Y.2.1 pc = .ok (.getfield 72, 3)) (hY : Y.1.cls = RX37) (kk : wp w d Y (pc + 3) ls (.ref x :: st) h Q) : wp w d Y pc ls (.ref a :: st) h Q := x_gA (ci := 36) (k := 39) hf hd rfl (by decide) (by rw [hY]; exact q4274) kk
theorem GX37_75 {w : eW} {d : Nat} {Y : eY} {pc : Nat} {ls : eL} {st : List Value} {h : eH} {Q : eO → eH → Prop} {a : Nat} {x : Nat} (hf : g_A 36 h a 40 = some x) (hd : decode Y.2.1 pc = .ok (.getfield 75, 3)) (hY : Y.1.cls = RX37) (kk : wp w d Y (pc + 3) ls (.ref x :: st) h Q) : wp w d Y pc ls (.ref a :: st) h Q := x_gA (ci := 36) (k := 40) hf hd rfl (by decide) (by rw [hY]; exact q4276) kk
theorem GX37_78 {w : eW} {d : Nat} {Y : eY} {pc : Nat} {ls : eL} {st : List Value} {h : eH} {Q : eO → eH → Prop} {a : Nat} {x : Nat} (hf : g_A 36 h a 41 = some x) (hd : decode Y.2.1 pc = .ok (.getfield 78, 3)) (hY : Y.1.cls = RX37) (kk : wp w d Y (pc + 3) ls (.ref x :: st) h Q) : wp w d Y pc ls (.ref a :: st) h Q := x_gA (ci := 36) (k := 41) hf hd rfl (by decide) (by rw [hY]; exact q4278) kk
theorem GX37_81 {w : eW} {d : Nat} {Y : eY} {pc : Nat} {ls : eL} {st : List Value} {h : eH} {Q : eO → eH → Prop} {a : Nat} {x : Nat} (hf : g_A 36 h a 42 = some x) (hd : decode Y.2.1 pc = .ok (.getfield 81, 3)) (hY : Y.1.cls = RX37) (kk : wp w d Y (pc + 3) ls (.ref x :: st) h Q) : wp w d Y pc ls (.ref a :: st) h Q := x_gA (ci := 36) (k := 42) hf hd rfl (by decide) (by rw [hY]; exact q4279) kk
theorem GX37_84 {w : eW} {d : Nat} {Y : eY} {pc : Nat} {ls : eL} {st : List Value} {h : eH} {Q : eO → eH → Prop} {a : Nat} {x : Nat} (hf : g_A 36 h a 43 = some x) (hd : decode Y.2.1 pc = .ok (.getfield 84, 3)) (hY : Y.1.cls = RX37) (kk : wp w d Y (pc + 3) ls (.ref x :: st) h Q) : wp w d Y pc ls (.ref a :: st) h Q := x_gA (ci := 36) (k := 43) hf hd rfl (by decide) (by rw [hY]; exact q4280) kk
theorem GX37_87 {w : eW} {d : Nat} {Y : eY} {pc : Nat} {ls : eL} {st : List Value} {h : eH} {Q : eO → eH → Prop} {a : Nat} {x : Nat} (hf : g_A 36 h a 44 = some x) (hd : decode Y.2.1 pc = .ok (.getfield 87, 3)) (hY : Y.1.cls = RX37) (kk : wp w d Y (pc + 3) ls (.ref x :: st) h Q) : wp w d Y pc ls (.ref a :: st) h Q := x_gA (ci := 36) (k := 44) hf hd rfl (by decide) (by rw [hY]; exact q4281) kk
theorem SX37_232 {w : eW} {d : Nat} {Y : eY} {pc : Nat} {ls : eL} {st : List Value} {h : eH} {Q : eO → eH → Prop} {a : Nat} {h' : eH} {x : Int32} (hf : p_V 36 h a 37 (.int x) = some h') (hd : decode Y.2.1 pc = .ok (.putfield 232, 3)) (hY : Y.1.cls = RX37) (kk : wp w d Y (pc + 3) ls st h' Q) : wp w d Y pc ls (.int x :: .ref a :: st) h Q := x_pI (ci := 36) (k := 37) hf hd rfl (by decide) (by rw [hY]; exact q4272) rfl rfl kk
theorem SX37_235 {w : eW} {d : Nat} {Y : eY} {pc : Nat} {ls : eL} {st : List Value} {h : eH} {Q : eO → eH → Prop} {a : Nat} {h' : eH} {x : Int32} (hf : p_V 36 h a 38 (.int x) = some h') (hd : decode Y.2.1 pc = .ok (.putfield 235, 3)) (hY : Y.1.cls = RX37) (kk : wp w d Y (pc + 3) ls st h' Q) : wp w d Y pc ls (.int x :: .ref a :: st) h Q := x_pI (ci := 36) (k := 38) hf hd rfl (by decide) (by rw [hY]; exact q4273) rfl rfl kk
def fX37_tell_b28 (N : Nat) : Nat → Nat → Int32 → eH → Option (Int32 × eH)
  | 0, _, _, _ => none
  | n + 1, l0, l2, h =>
    if l2 ≤ 0 then
      (g_I 36 h l0 38).bind fun x2 =>
      some (x2, h)
    else
      (g_A 36 h l0 24).bind fun a4 =>
      (r_I 100 h a4 l2).bind fun x6 =>
      (g_A 36 h l0 23).bind fun a8 =>
      (g_A 36 h l0 27).bind fun a10 =>
      (r_I 100 h a10 l2).bind fun x12 =>
      (r_I 100 h a8 x12).bind fun x14 =>
      (g_A 36 h l0 23).bind fun a16 =>
      (r_I 100 h a16 l2).bind fun x18 =>
      (k_ok 36 h l0).bind fun _ =>
      (fX37_measure N l0 x14 x18 h).bind fun q21 =>
      (k_ok 36 q21.2 l0).bind fun _ =>
      (fX37_judge l0 (x6 - (1 : Int32)) q21.2).bind fun q23 =>
      (g_A 36 q23.2 l0 39).bind fun a24 =>
      (g_A 36 q23.2 l0 23).bind fun a26 =>
      (r_I 100 q23.2 a26 l2).bind fun x28 =>
      (q_V 100 q23.2 a24 (x6 - (1 : Int32)) (.int x28)).bind fun h30 =>
      (g_A 36 h30 l0 40).bind fun a32 =>
      (g_I 36 h30 l0 29).bind fun x34 =>
      (q_V 100 h30 a32 (x6 - (1 : Int32)) (.int x34)).bind fun h36 =>
      (g_A 36 h36 l0 41).bind fun a38 =>
      (g_I 36 h36 l0 33).bind fun x40 =>
      (q_V 100 h36 a38 (x6 - (1 : Int32)) (.int x40)).bind fun h42 =>
      (g_A 36 h42 l0 42).bind fun a44 =>
      (g_I 36 h42 l0 34).bind fun x46 =>
      (q_V 100 h42 a44 (x6 - (1 : Int32)) (.int x46)).bind fun h48 =>
      (g_A 36 h48 l0 43).bind fun a50 =>
      (g_I 36 h48 l0 35).bind fun x52 =>
      (q_V 100 h48 a50 (x6 - (1 : Int32)) (.int x52)).bind fun h54 =>
      (g_A 36 h54 l0 44).bind fun a56 =>
      (g_A 36 h54 l0 26).bind fun a58 =>
      (r_J h54 a58 l2).bind fun x60 =>
      (q_V 101 h54 a56 (x6 - (1 : Int32)) (.long x60)).bind fun h62 =>
      (g_A 36 h62 l0 27).bind fun a64 =>
      (r_I 100 h62 a64 l2).bind fun x66 =>
      fX37_tell_b28 N n l0 x66 h62
theorem pX37_tell_b28 {w : eW} {d : Nat} (hd : 3 ≤ d + 1) {N : Nat} : ∀ (n : Nat) l0 l2 h q, fX37_tell_b28 N n l0 l2 h = some q → wp w (d + 1) YX37_tell 28 [some (.ref l0), none, some (.int l2), none] [] h (e_is (e_rn c_I q)) := by
  intro n
  induction n with
  | zero => intro l0 l2 h q hf; simp [fX37_tell_b28] at hf
  | succ n ih =>
    intro l0 l2 h q hf
    rw [fX37_tell_b28] at hf
    refine w_iload_n dX37_tell_28 rfl rfl ?_
    refine w_if_le 141 dX37_tell_29 (by decide) (fun c1 => ?_) (fun c1 => ?_)
    · replace hf := (if_pos (show l2 ≤ 0 from c1)).symm.trans hf
      refine w_aload_n dX37_tell_141 rfl rfl ?_
      obtain ⟨x2, b3, hf⟩ := Option.bind_eq_some_iff.mp hf
      refine GX37_235 b3 dX37_tell_142 rfl ?_
      cases hf
      exact w_iret dX37_tell_145 rfl rfl rfl
    · replace hf := (if_neg (show ¬ (l2 ≤ 0) from c1)).symm.trans hf
      refine w_aload_n dX37_tell_32 rfl rfl ?_
      obtain ⟨a4, b5, hf⟩ := Option.bind_eq_some_iff.mp hf
      refine GX37_52 b5 dX37_tell_33 rfl ?_
      refine w_iload_n dX37_tell_36 rfl rfl ?_
      obtain ⟨x6, b7, hf⟩ := Option.bind_eq_some_iff.mp hf
      refine x_rI b7 dX37_tell_37 ?_
      refine w_iconst dX37_tell_38 (v := 1) (by decide) ?_
      refine w_isub dX37_tell_39 ?_
      refine w_istore_n dX37_tell_40 rfl (by decide) (ls' := [some (.ref l0), none, some (.int l2), some (.int (x6 - (1 : Int32)))]) rfl ?_
      refine w_aload_n dX37_tell_41 rfl rfl ?_
      refine w_aload_n dX37_tell_42 rfl rfl ?_
      obtain ⟨a8, b9, hf⟩ := Option.bind_eq_some_iff.mp hf
      refine GX37_49 b9 dX37_tell_43 rfl ?_
      refine w_aload_n dX37_tell_46 rfl rfl ?_
      obtain ⟨a10, b11, hf⟩ := Option.bind_eq_some_iff.mp hf
      refine GX37_62 b11 dX37_tell_47 rfl ?_
      refine w_iload_n dX37_tell_50 rfl rfl ?_
      obtain ⟨x12, b13, hf⟩ := Option.bind_eq_some_iff.mp hf
      refine x_rI b13 dX37_tell_51 ?_
      obtain ⟨x14, b15, hf⟩ := Option.bind_eq_some_iff.mp hf
      refine x_rI b15 dX37_tell_52 ?_
      refine w_aload_n dX37_tell_53 rfl rfl ?_
      obtain ⟨a16, b17, hf⟩ := Option.bind_eq_some_iff.mp hf
      refine GX37_49 b17 dX37_tell_54 rfl ?_
      refine w_iload_n dX37_tell_57 rfl rfl ?_
      obtain ⟨x18, b19, hf⟩ := Option.bind_eq_some_iff.mp hf
      refine x_rI b19 dX37_tell_58 ?_
      obtain ⟨_, b20, hf⟩ := Option.bind_eq_some_iff.mp hf
      refine x_cnV hf (e_stV (Yc := YX37_measure) (ci := 36) (av := [.int x14, .int x18]) (st := []) dX37_tell_59 q5806 mX37_measure rfl (k_ok_some b20).1 (k_ok_some b20).2) mX37_measure.2.2.1 mX37_measure.2.2.2.2.1 (Nat.le_of_ble_eq_true rfl) (Nat.le_of_ble_eq_true rfl) (fun q hq => pX37_measure (by omega) hq) (fun q21 hf => ?_)
      refine w_aload_n dX37_tell_62 rfl rfl ?_
      refine w_iload_n dX37_tell_63 rfl rfl ?_
      obtain ⟨_, b22, hf⟩ := Option.bind_eq_some_iff.mp hf
      refine x_cnV hf (e_stV (Yc := YX37_judge) (ci := 36) (av := [.int (x6 - (1 : Int32))]) (st := []) dX37_tell_64 q5822 mX37_judge rfl (k_ok_some b22).1 (k_ok_some b22).2) mX37_judge.2.2.1 mX37_judge.2.2.2.2.1 (Nat.le_of_ble_eq_true rfl) (Nat.le_of_ble_eq_true rfl) (fun q hq => pX37_judge (by omega) hq) (fun q23 hf => ?_)
      refine w_aload_n dX37_tell_67 rfl rfl ?_
      obtain ⟨a24, b25, hf⟩ := Option.bind_eq_some_iff.mp hf
      refine GX37_72 b25 dX37_tell_68 rfl ?_
      refine w_iload_n dX37_tell_71 rfl rfl ?_
      refine w_aload_n dX37_tell_72 rfl rfl ?_
      obtain ⟨a26, b27, hf⟩ := Option.bind_eq_some_iff.mp hf
      refine GX37_49 b27 dX37_tell_73 rfl ?_
      refine w_iload_n dX37_tell_76 rfl rfl ?_
      obtain ⟨x28, b29, hf⟩ := Option.bind_eq_some_iff.mp hf
      refine x_rI b29 dX37_tell_77 ?_
      obtain ⟨h30, b31, hf⟩ := Option.bind_eq_some_iff.mp hf
      refine x_qI b31 dX37_tell_78 ?_
      refine w_aload_n dX37_tell_79 rfl rfl ?_
      obtain ⟨a32, b33, hf⟩ := Option.bind_eq_some_iff.mp hf
      refine GX37_75 b33 dX37_tell_80 rfl ?_
      refine w_iload_n dX37_tell_83 rfl rfl ?_
      refine w_aload_n dX37_tell_84 rfl rfl ?_
      obtain ⟨x34, b35, hf⟩ := Option.bind_eq_some_iff.mp hf
      refine GX37_135 b35 dX37_tell_85 rfl ?_
      obtain ⟨h36, b37, hf⟩ := Option.bind_eq_some_iff.mp hf
      refine x_qI b37 dX37_tell_88 ?_
      refine w_aload_n dX37_tell_89 rfl rfl ?_
      obtain ⟨a38, b39, hf⟩ := Option.bind_eq_some_iff.mp hf
      refine GX37_78 b39 dX37_tell_90 rfl ?_
      refine w_iload_n dX37_tell_93 rfl rfl ?_
      refine w_aload_n dX37_tell_94 rfl rfl ?_
      obtain ⟨x40, b41, hf⟩ := Option.bind_eq_some_iff.mp hf
      refine GX37_162 b41 dX37_tell_95 rfl ?_
      obtain ⟨h42, b43, hf⟩ := Option.bind_eq_some_iff.mp hf
      refine x_qI b43 dX37_tell_98 ?_
      refine w_aload_n dX37_tell_99 rfl rfl ?_
      obtain ⟨a44, b45, hf⟩ := Option.bind_eq_some_iff.mp hf
      refine GX37_81 b45 dX37_tell_100 rfl ?_
      refine w_iload_n dX37_tell_103 rfl rfl ?_
      refine w_aload_n dX37_tell_104 rfl rfl ?_
      obtain ⟨x46, b47, hf⟩ := Option.bind_eq_some_iff.mp hf
      refine GX37_169 b47 dX37_tell_105 rfl ?_
      obtain ⟨h48, b49, hf⟩ := Option.bind_eq_some_iff.mp hf
      refine x_qI b49 dX37_tell_108 ?_
      refine w_aload_n dX37_tell_109 rfl rfl ?_
      obtain ⟨a50, b51, hf⟩ := Option.bind_eq_some_iff.mp hf
      refine GX37_84 b51 dX37_tell_110 rfl ?_
      refine w_iload_n dX37_tell_113 rfl rfl ?_
      refine w_aload_n dX37_tell_114 rfl rfl ?_
      obtain ⟨x52, b53, hf⟩ := Option.bind_eq_some_iff.mp hf
      refine GX37_172 b53 dX37_tell_115 rfl ?_
      obtain ⟨h54, b55, hf⟩ := Option.bind_eq_some_iff.mp hf
      refine x_qI b55 dX37_tell_118 ?_
      refine w_aload_n dX37_tell_119 rfl rfl ?_
      obtain ⟨a56, b57, hf⟩ := Option.bind_eq_some_iff.mp hf
      refine GX37_87 b57 dX37_tell_120 rfl ?_
      refine w_iload_n dX37_tell_123 rfl rfl ?_
      refine w_aload_n dX37_tell_124 rfl rfl ?_
      obtain ⟨a58, b59, hf⟩ := Option.bind_eq_some_iff.mp hf
      refine GX37_58 b59 dX37_tell_125 rfl ?_
      refine w_iload_n dX37_tell_128 rfl rfl ?_
      obtain ⟨x60, b61, hf⟩ := Option.bind_eq_some_iff.mp hf
      refine x_rJ b61 dX37_tell_129 ?_
      obtain ⟨h62, b63, hf⟩ := Option.bind_eq_some_iff.mp hf
      refine x_qJ b63 dX37_tell_130 ?_
      refine w_aload_n dX37_tell_131 rfl rfl ?_
      obtain ⟨a64, b65, hf⟩ := Option.bind_eq_some_iff.mp hf
      refine GX37_62 b65 dX37_tell_132 rfl ?_
      refine w_iload_n dX37_tell_135 rfl rfl ?_
      obtain ⟨x66, b67, hf⟩ := Option.bind_eq_some_iff.mp hf
      refine x_rI b67 dX37_tell_136 ?_
      refine w_istore_n dX37_tell_137 rfl (by decide) (ls' := [some (.ref l0), none, some (.int x66), some (.int (x6 - (1 : Int32)))]) rfl ?_
      refine w_goto 28 dX37_tell_138 (by decide) ?_
      exact (ih _ _ _ _ hf).to ⟨rfl, rfl, trivial⟩
def fX37_tell (N : Nat) (this : Nat) (p0 : Int32) (h : eH) : Option (Int32 × eH) :=
  (g_I 36 h this 16).bind fun x1 =>
  (p_V 36 h this 36 (.int x1)).bind fun h3 =>
  (g_I 36 h3 this 20).bind fun x5 =>
  (p_V 36 h3 this 37 (.int x5)).bind fun h7 =>
  (g_A 36 h7 this 24).bind fun a9 =>
  (r_I 100 h7 a9 p0).bind fun x11 =>
  (p_V 36 h7 this 38 (.int x11)).bind fun h13 =>
  fX37_tell_b28 N N this p0 h13
theorem pX37_tell {w : eW} {d : Nat} (hd : 3 ≤ d) {N : Nat} {this : Nat} {p0 : Int32} {h : eH} {q} (hf : fX37_tell N this p0 h = some q) : wm w d YX37_tell [.ref this, .int p0] h (e_is (e_rn c_I q)) := by
  obtain ⟨d, rfl⟩ : ∃ e, d = e + 1 := ⟨d - 1, by omega⟩
  show wp w (d + 1) YX37_tell 0 [some (.ref this), some (.int p0), none, none] [] h _
  unfold fX37_tell at hf
  refine w_aload_n dX37_tell_0 rfl rfl ?_
  refine w_aload_n dX37_tell_1 rfl rfl ?_
  obtain ⟨x1, b2, hf⟩ := Option.bind_eq_some_iff.mp hf
  refine GX37_122 b2 dX37_tell_2 rfl ?_
  obtain ⟨h3, b4, hf⟩ := Option.bind_eq_some_iff.mp hf
  refine SX37_108 b4 dX37_tell_5 rfl ?_
  refine w_aload_n dX37_tell_8 rfl rfl ?_
  refine w_aload_n dX37_tell_9 rfl rfl ?_
  obtain ⟨x5, b6, hf⟩ := Option.bind_eq_some_iff.mp hf
  refine GX37_185 b6 dX37_tell_10 rfl ?_
  obtain ⟨h7, b8, hf⟩ := Option.bind_eq_some_iff.mp hf
  refine SX37_232 b8 dX37_tell_13 rfl ?_
  refine w_aload_n dX37_tell_16 rfl rfl ?_
  refine w_aload_n dX37_tell_17 rfl rfl ?_
  obtain ⟨a9, b10, hf⟩ := Option.bind_eq_some_iff.mp hf
  refine GX37_52 b10 dX37_tell_18 rfl ?_
  refine w_iload_n dX37_tell_21 rfl rfl ?_
  obtain ⟨x11, b12, hf⟩ := Option.bind_eq_some_iff.mp hf
  refine x_rI b12 dX37_tell_22 ?_
  obtain ⟨h13, b14, hf⟩ := Option.bind_eq_some_iff.mp hf
  refine SX37_235 b14 dX37_tell_23 rfl ?_
  refine w_iload_n dX37_tell_26 rfl rfl ?_
  refine w_istore_n dX37_tell_27 rfl (by decide) (ls' := [some (.ref this), some (.int p0), some (.int p0), none]) rfl ?_
  exact (pX37_tell_b28 hd N _ _ _ _ hf).to ⟨rfl, rfl, trivial⟩
abbrev cX37_breakUp : ByteArray := prog_38_method_27_code
def yX37_breakUp : MethodName := ⟨RX37, "breakUp", "()I"⟩
def YX37_breakUp : eY := (yX37_breakUp, cX37_breakUp, 14, (Option.some FieldType.int), [])
theorem mX37_breakUp : e_mv YX37_breakUp RX37 0 := ⟨q5765, q5766, q5767, by decide, by decide +kernel, (e_sig (by decide +kernel))⟩
theorem dX37_breakUp_0 : decode cX37_breakUp 0 = .ok (.iconst 0, 1) := dc_3 (by decide +kernel)
theorem dX37_breakUp_1 : decode cX37_breakUp 1 = .ok (.istore_n 1, 1) := dc_60 (by decide +kernel)
theorem dX37_breakUp_2 : decode cX37_breakUp 2 = .ok (.iconst 0, 1) := dc_3 (by decide +kernel)
theorem dX37_breakUp_3 : decode cX37_breakUp 3 = .ok (.istore_n 2, 1) := dc_61 (by decide +kernel)
theorem dX37_breakUp_4 : decode cX37_breakUp 4 = .ok (.iload_n 2, 1) := dc_28 (by decide +kernel)
theorem dX37_breakUp_5 : decode cX37_breakUp 5 = .ok (.aload_n 0, 1) := dc_42 (by decide +kernel)
theorem dX37_breakUp_6 : decode cX37_breakUp 6 = .ok (.getfield 104, 3) := dc_180 (a := 0) (b := 104) (n := 104) (by decide +kernel)
theorem dX37_breakUp_9 : decode cX37_breakUp 9 = .ok (.if_icmp .ge 44, 3) := dc_162 (a := 0) (b := 44) (v := 44) (by decide +kernel)
theorem dX37_breakUp_12 : decode cX37_breakUp 12 = .ok (.iload_n 1, 1) := dc_27 (by decide +kernel)
theorem dX37_breakUp_13 : decode cX37_breakUp 13 = .ok (.ifCond .ne 28, 3) := dc_154 (a := 0) (b := 28) (v := 28) (by decide +kernel)
theorem dX37_breakUp_16 : decode cX37_breakUp 16 = .ok (.aload_n 0, 1) := dc_42 (by decide +kernel)
theorem dX37_breakUp_17 : decode cX37_breakUp 17 = .ok (.getfield 7, 3) := dc_180 (a := 0) (b := 7) (n := 7) (by decide +kernel)
theorem dX37_breakUp_20 : decode cX37_breakUp 20 = .ok (.iload_n 2, 1) := dc_28 (by decide +kernel)
theorem dX37_breakUp_21 : decode cX37_breakUp 21 = .ok (.iaload, 1) := dc_46 (by decide +kernel)
theorem dX37_breakUp_22 : decode cX37_breakUp 22 = .ok (.iconst 5, 1) := dc_8 (by decide +kernel)
theorem dX37_breakUp_23 : decode cX37_breakUp 23 = .ok (.if_icmp .ne 22, 3) := dc_160 (a := 0) (b := 22) (v := 22) (by decide +kernel)
theorem dX37_breakUp_26 : decode cX37_breakUp 26 = .ok (.iload_n 2, 1) := dc_28 (by decide +kernel)
theorem dX37_breakUp_27 : decode cX37_breakUp 27 = .ok (.aload_n 0, 1) := dc_42 (by decide +kernel)
theorem dX37_breakUp_28 : decode cX37_breakUp 28 = .ok (.getfield 31, 3) := dc_180 (a := 0) (b := 31) (n := 31) (by decide +kernel)
theorem dX37_breakUp_31 : decode cX37_breakUp 31 = .ok (.iload_n 2, 1) := dc_28 (by decide +kernel)
theorem dX37_breakUp_32 : decode cX37_breakUp 32 = .ok (.iaload, 1) := dc_46 (by decide +kernel)
theorem dX37_breakUp_33 : decode cX37_breakUp 33 = .ok (.iadd, 1) := dc_96 (by decide +kernel)
theorem dX37_breakUp_34 : decode cX37_breakUp 34 = .ok (.aload_n 0, 1) := dc_42 (by decide +kernel)
theorem dX37_breakUp_35 : decode cX37_breakUp 35 = .ok (.getfield 104, 3) := dc_180 (a := 0) (b := 104) (n := 104) (by decide +kernel)
theorem dX37_breakUp_38 : decode cX37_breakUp 38 = .ok (.if_icmp .lt 7, 3) := dc_161 (a := 0) (b := 7) (v := 7) (by decide +kernel)
theorem dX37_breakUp_41 : decode cX37_breakUp 41 = .ok (.iconst 1, 1) := dc_4 (by decide +kernel)
theorem dX37_breakUp_42 : decode cX37_breakUp 42 = .ok (.goto 4, 3) := dc_167 (a := 0) (b := 4) (v := 4) (by decide +kernel)
theorem dX37_breakUp_45 : decode cX37_breakUp 45 = .ok (.iconst 0, 1) := dc_3 (by decide +kernel)
theorem dX37_breakUp_46 : decode cX37_breakUp 46 = .ok (.istore_n 1, 1) := dc_60 (by decide +kernel)
theorem dX37_breakUp_47 : decode cX37_breakUp 47 = .ok (.iinc 2 1, 3) := dc_132 (a := 2) (b := 1) (v := 1) (by decide +kernel)
theorem dX37_breakUp_50 : decode cX37_breakUp 50 = .ok (.goto (-46), 3) := dc_167 (a := 255) (b := 210) (v := -46) (by decide +kernel)
theorem dX37_breakUp_53 : decode cX37_breakUp 53 = .ok (.aload_n 0, 1) := dc_42 (by decide +kernel)
theorem dX37_breakUp_54 : decode cX37_breakUp 54 = .ok (.iload_n 1, 1) := dc_27 (by decide +kernel)
theorem dX37_breakUp_55 : decode cX37_breakUp 55 = .ok (.ifCond .eq 7, 3) := dc_153 (a := 0) (b := 7) (v := 7) (by decide +kernel)
theorem dX37_breakUp_58 : decode cX37_breakUp 58 = .ok (.iconst 1, 1) := dc_4 (by decide +kernel)
theorem dX37_breakUp_59 : decode cX37_breakUp 59 = .ok (.goto 15, 3) := dc_167 (a := 0) (b := 15) (v := 15) (by decide +kernel)
theorem dX37_breakUp_62 : decode cX37_breakUp 62 = .ok (.aload_n 0, 1) := dc_42 (by decide +kernel)
theorem dX37_breakUp_63 : decode cX37_breakUp 63 = .ok (.invokevirtual 246, 3) := dc_182 (a := 0) (b := 246) (n := 246) (by decide +kernel)
theorem dX37_breakUp_66 : decode cX37_breakUp 66 = .ok (.ifCond .eq 7, 3) := dc_153 (a := 0) (b := 7) (v := 7) (by decide +kernel)
theorem dX37_breakUp_69 : decode cX37_breakUp 69 = .ok (.iconst 0, 1) := dc_3 (by decide +kernel)
theorem dX37_breakUp_70 : decode cX37_breakUp 70 = .ok (.goto 4, 3) := dc_167 (a := 0) (b := 4) (v := 4) (by decide +kernel)
theorem dX37_breakUp_73 : decode cX37_breakUp 73 = .ok (.iconst 2, 1) := dc_5 (by decide +kernel)
theorem dX37_breakUp_74 : decode cX37_breakUp 74 = .ok (.putfield 250, 3) := dc_181 (a := 0) (b := 250) (n := 250) (by decide +kernel)
theorem dX37_breakUp_77 : decode cX37_breakUp 77 = .ok (.aload_n 0, 1) := dc_42 (by decide +kernel)
theorem dX37_breakUp_78 : decode cX37_breakUp 78 = .ok (.getfield 250, 3) := dc_180 (a := 0) (b := 250) (n := 250) (by decide +kernel)
theorem dX37_breakUp_81 : decode cX37_breakUp 81 = .ok (.ifCond .le 5, 3) := dc_158 (a := 0) (b := 5) (v := 5) (by decide +kernel)
theorem dX37_breakUp_84 : decode cX37_breakUp 84 = .ok (.iconst 0, 1) := dc_3 (by decide +kernel)
theorem dX37_breakUp_85 : decode cX37_breakUp 85 = .ok (.ireturn, 1) := dc_172 (by decide +kernel)
theorem dX37_breakUp_86 : decode cX37_breakUp 86 = .ok (.aload_n 0, 1) := dc_42 (by decide +kernel)
theorem dX37_breakUp_87 : decode cX37_breakUp 87 = .ok (.getfield 104, 3) := dc_180 (a := 0) (b := 104) (n := 104) (by decide +kernel)
theorem dX37_breakUp_90 : decode cX37_breakUp 90 = .ok (.istore_n 2, 1) := dc_61 (by decide +kernel)
theorem dX37_breakUp_91 : decode cX37_breakUp 91 = .ok (.aload_n 0, 1) := dc_42 (by decide +kernel)
theorem dX37_breakUp_92 : decode cX37_breakUp 92 = .ok (.getfield 104, 3) := dc_180 (a := 0) (b := 104) (n := 104) (by decide +kernel)
theorem dX37_breakUp_95 : decode cX37_breakUp 95 = .ok (.ifCond .le 27, 3) := dc_158 (a := 0) (b := 27) (v := 27) (by decide +kernel)
theorem dX37_breakUp_98 : decode cX37_breakUp 98 = .ok (.aload_n 0, 1) := dc_42 (by decide +kernel)
theorem dX37_breakUp_99 : decode cX37_breakUp 99 = .ok (.getfield 7, 3) := dc_180 (a := 0) (b := 7) (n := 7) (by decide +kernel)
theorem dX37_breakUp_102 : decode cX37_breakUp 102 = .ok (.aload_n 0, 1) := dc_42 (by decide +kernel)
theorem dX37_breakUp_103 : decode cX37_breakUp 103 = .ok (.getfield 104, 3) := dc_180 (a := 0) (b := 104) (n := 104) (by decide +kernel)
theorem dX37_breakUp_106 : decode cX37_breakUp 106 = .ok (.iconst 1, 1) := dc_4 (by decide +kernel)
theorem dX37_breakUp_107 : decode cX37_breakUp 107 = .ok (.isub, 1) := dc_100 (by decide +kernel)
theorem dX37_breakUp_108 : decode cX37_breakUp 108 = .ok (.iaload, 1) := dc_46 (by decide +kernel)
theorem dX37_breakUp_109 : decode cX37_breakUp 109 = .ok (.iconst 1, 1) := dc_4 (by decide +kernel)
theorem dX37_breakUp_110 : decode cX37_breakUp 110 = .ok (.if_icmp .ne 12, 3) := dc_160 (a := 0) (b := 12) (v := 12) (by decide +kernel)
theorem dX37_breakUp_113 : decode cX37_breakUp 113 = .ok (.aload_n 0, 1) := dc_42 (by decide +kernel)
theorem dX37_breakUp_114 : decode cX37_breakUp 114 = .ok (.getfield 104, 3) := dc_180 (a := 0) (b := 104) (n := 104) (by decide +kernel)
theorem dX37_breakUp_117 : decode cX37_breakUp 117 = .ok (.iconst 1, 1) := dc_4 (by decide +kernel)
theorem dX37_breakUp_118 : decode cX37_breakUp 118 = .ok (.isub, 1) := dc_100 (by decide +kernel)
theorem dX37_breakUp_119 : decode cX37_breakUp 119 = .ok (.goto 7, 3) := dc_167 (a := 0) (b := 7) (v := 7) (by decide +kernel)
theorem dX37_breakUp_122 : decode cX37_breakUp 122 = .ok (.aload_n 0, 1) := dc_42 (by decide +kernel)
theorem dX37_breakUp_123 : decode cX37_breakUp 123 = .ok (.getfield 104, 3) := dc_180 (a := 0) (b := 104) (n := 104) (by decide +kernel)
theorem dX37_breakUp_126 : decode cX37_breakUp 126 = .ok (.istore_n 3, 1) := dc_62 (by decide +kernel)
theorem dX37_breakUp_127 : decode cX37_breakUp 127 = .ok (.aload_n 0, 1) := dc_42 (by decide +kernel)
theorem dX37_breakUp_128 : decode cX37_breakUp 128 = .ok (.getfield 7, 3) := dc_180 (a := 0) (b := 7) (n := 7) (by decide +kernel)
theorem dX37_breakUp_131 : decode cX37_breakUp 131 = .ok (.iload_n 3, 1) := dc_29 (by decide +kernel)
theorem dX37_breakUp_132 : decode cX37_breakUp 132 = .ok (.iaload, 1) := dc_46 (by decide +kernel)
theorem dX37_breakUp_133 : decode cX37_breakUp 133 = .ok (.istore 4, 2) := dc_54 (a := 4) (by decide +kernel)
theorem dX37_breakUp_135 : decode cX37_breakUp 135 = .ok (.aload_n 0, 1) := dc_42 (by decide +kernel)
theorem dX37_breakUp_136 : decode cX37_breakUp 136 = .ok (.getfield 13, 3) := dc_180 (a := 0) (b := 13) (n := 13) (by decide +kernel)
theorem dX37_breakUp_139 : decode cX37_breakUp 139 = .ok (.iload_n 3, 1) := dc_29 (by decide +kernel)
theorem dX37_breakUp_140 : decode cX37_breakUp 140 = .ok (.iaload, 1) := dc_46 (by decide +kernel)
theorem dX37_breakUp_141 : decode cX37_breakUp 141 = .ok (.istore 5, 2) := dc_54 (a := 5) (by decide +kernel)
theorem dX37_breakUp_143 : decode cX37_breakUp 143 = .ok (.aload_n 0, 1) := dc_42 (by decide +kernel)
theorem dX37_breakUp_144 : decode cX37_breakUp 144 = .ok (.getfield 16, 3) := dc_180 (a := 0) (b := 16) (n := 16) (by decide +kernel)
theorem dX37_breakUp_147 : decode cX37_breakUp 147 = .ok (.iload_n 3, 1) := dc_29 (by decide +kernel)
theorem dX37_breakUp_148 : decode cX37_breakUp 148 = .ok (.iaload, 1) := dc_46 (by decide +kernel)
theorem dX37_breakUp_149 : decode cX37_breakUp 149 = .ok (.istore 6, 2) := dc_54 (a := 6) (by decide +kernel)
theorem dX37_breakUp_151 : decode cX37_breakUp 151 = .ok (.aload_n 0, 1) := dc_42 (by decide +kernel)
theorem dX37_breakUp_152 : decode cX37_breakUp 152 = .ok (.getfield 19, 3) := dc_180 (a := 0) (b := 19) (n := 19) (by decide +kernel)
theorem dX37_breakUp_155 : decode cX37_breakUp 155 = .ok (.iload_n 3, 1) := dc_29 (by decide +kernel)
theorem dX37_breakUp_156 : decode cX37_breakUp 156 = .ok (.iaload, 1) := dc_46 (by decide +kernel)
theorem dX37_breakUp_157 : decode cX37_breakUp 157 = .ok (.istore 7, 2) := dc_54 (a := 7) (by decide +kernel)
theorem dX37_breakUp_159 : decode cX37_breakUp 159 = .ok (.aload_n 0, 1) := dc_42 (by decide +kernel)
theorem dX37_breakUp_160 : decode cX37_breakUp 160 = .ok (.getfield 22, 3) := dc_180 (a := 0) (b := 22) (n := 22) (by decide +kernel)
theorem dX37_breakUp_163 : decode cX37_breakUp 163 = .ok (.iload_n 3, 1) := dc_29 (by decide +kernel)
theorem dX37_breakUp_164 : decode cX37_breakUp 164 = .ok (.iaload, 1) := dc_46 (by decide +kernel)
theorem dX37_breakUp_165 : decode cX37_breakUp 165 = .ok (.istore 8, 2) := dc_54 (a := 8) (by decide +kernel)
theorem dX37_breakUp_167 : decode cX37_breakUp 167 = .ok (.aload_n 0, 1) := dc_42 (by decide +kernel)
theorem dX37_breakUp_168 : decode cX37_breakUp 168 = .ok (.iload_n 3, 1) := dc_29 (by decide +kernel)
theorem dX37_breakUp_169 : decode cX37_breakUp 169 = .ok (.putfield 104, 3) := dc_181 (a := 0) (b := 104) (n := 104) (by decide +kernel)
theorem dX37_breakUp_172 : decode cX37_breakUp 172 = .ok (.aload_n 0, 1) := dc_42 (by decide +kernel)
theorem dX37_breakUp_173 : decode cX37_breakUp 173 = .ok (.iconst 4, 1) := dc_7 (by decide +kernel)
theorem dX37_breakUp_174 : decode cX37_breakUp 174 = .ok (.sipush 10000, 3) := dc_17 (a := 39) (b := 16) (v := 10000) (by decide +kernel)
theorem dX37_breakUp_177 : decode cX37_breakUp 177 = .ok (.iconst 0, 1) := dc_3 (by decide +kernel)
theorem dX37_breakUp_178 : decode cX37_breakUp 178 = .ok (.iconst 0, 1) := dc_3 (by decide +kernel)
theorem dX37_breakUp_179 : decode cX37_breakUp 179 = .ok (.iconst 0, 1) := dc_3 (by decide +kernel)
theorem dX37_breakUp_180 : decode cX37_breakUp 180 = .ok (.iconst 0, 1) := dc_3 (by decide +kernel)
theorem dX37_breakUp_181 : decode cX37_breakUp 181 = .ok (.iconst 0, 1) := dc_3 (by decide +kernel)
theorem dX37_breakUp_182 : decode cX37_breakUp 182 = .ok (.invokevirtual 253, 3) := dc_182 (a := 0) (b := 253) (n := 253) (by decide +kernel)
theorem dX37_breakUp_185 : decode cX37_breakUp 185 = .ok (.istore 9, 2) := dc_54 (a := 9) (by decide +kernel)
theorem dX37_breakUp_187 : decode cX37_breakUp 187 = .ok (.aload_n 0, 1) := dc_42 (by decide +kernel)
theorem dX37_breakUp_188 : decode cX37_breakUp 188 = .ok (.iconst 1, 1) := dc_4 (by decide +kernel)
theorem dX37_breakUp_189 : decode cX37_breakUp 189 = .ok (.aload_n 0, 1) := dc_42 (by decide +kernel)
theorem dX37_breakUp_190 : decode cX37_breakUp 190 = .ok (.getfield 37, 3) := dc_180 (a := 0) (b := 37) (n := 37) (by decide +kernel)
theorem dX37_breakUp_193 : decode cX37_breakUp 193 = .ok (.iconst 2, 1) := dc_5 (by decide +kernel)
theorem dX37_breakUp_194 : decode cX37_breakUp 194 = .ok (.iaload, 1) := dc_46 (by decide +kernel)
theorem dX37_breakUp_195 : decode cX37_breakUp 195 = .ok (.aload_n 0, 1) := dc_42 (by decide +kernel)
theorem dX37_breakUp_196 : decode cX37_breakUp 196 = .ok (.getfield 40, 3) := dc_180 (a := 0) (b := 40) (n := 40) (by decide +kernel)
theorem dX37_breakUp_199 : decode cX37_breakUp 199 = .ok (.iconst 2, 1) := dc_5 (by decide +kernel)
theorem dX37_breakUp_200 : decode cX37_breakUp 200 = .ok (.iaload, 1) := dc_46 (by decide +kernel)
theorem dX37_breakUp_201 : decode cX37_breakUp 201 = .ok (.aload_n 0, 1) := dc_42 (by decide +kernel)
theorem dX37_breakUp_202 : decode cX37_breakUp 202 = .ok (.getfield 43, 3) := dc_180 (a := 0) (b := 43) (n := 43) (by decide +kernel)
theorem dX37_breakUp_205 : decode cX37_breakUp 205 = .ok (.iconst 2, 1) := dc_5 (by decide +kernel)
theorem dX37_breakUp_206 : decode cX37_breakUp 206 = .ok (.iaload, 1) := dc_46 (by decide +kernel)
theorem dX37_breakUp_207 : decode cX37_breakUp 207 = .ok (.aload_n 0, 1) := dc_42 (by decide +kernel)
theorem dX37_breakUp_208 : decode cX37_breakUp 208 = .ok (.getfield 46, 3) := dc_180 (a := 0) (b := 46) (n := 46) (by decide +kernel)
theorem dX37_breakUp_211 : decode cX37_breakUp 211 = .ok (.iconst 2, 1) := dc_5 (by decide +kernel)
theorem dX37_breakUp_212 : decode cX37_breakUp 212 = .ok (.iaload, 1) := dc_46 (by decide +kernel)
theorem dX37_breakUp_213 : decode cX37_breakUp 213 = .ok (.iconst 0, 1) := dc_3 (by decide +kernel)
theorem dX37_breakUp_214 : decode cX37_breakUp 214 = .ok (.iconst 0, 1) := dc_3 (by decide +kernel)
theorem dX37_breakUp_215 : decode cX37_breakUp 215 = .ok (.invokevirtual 253, 3) := dc_182 (a := 0) (b := 253) (n := 253) (by decide +kernel)
theorem dX37_breakUp_218 : decode cX37_breakUp 218 = .ok (.istore 9, 2) := dc_54 (a := 9) (by decide +kernel)
theorem dX37_breakUp_220 : decode cX37_breakUp 220 = .ok (.aload_n 0, 1) := dc_42 (by decide +kernel)
theorem dX37_breakUp_221 : decode cX37_breakUp 221 = .ok (.aload_n 0, 1) := dc_42 (by decide +kernel)
theorem dX37_breakUp_222 : decode cX37_breakUp 222 = .ok (.iconst 4, 1) := dc_7 (by decide +kernel)
theorem dX37_breakUp_223 : decode cX37_breakUp 223 = .ok (.sipush (-10000), 3) := dc_17 (a := 216) (b := 240) (v := -10000) (by decide +kernel)
theorem dX37_breakUp_226 : decode cX37_breakUp 226 = .ok (.iconst 0, 1) := dc_3 (by decide +kernel)
theorem dX37_breakUp_227 : decode cX37_breakUp 227 = .ok (.iconst 0, 1) := dc_3 (by decide +kernel)
theorem dX37_breakUp_228 : decode cX37_breakUp 228 = .ok (.iconst 0, 1) := dc_3 (by decide +kernel)
theorem dX37_breakUp_229 : decode cX37_breakUp 229 = .ok (.iconst 0, 1) := dc_3 (by decide +kernel)
theorem dX37_breakUp_230 : decode cX37_breakUp 230 = .ok (.iconst 0, 1) := dc_3 (by decide +kernel)
theorem dX37_breakUp_231 : decode cX37_breakUp 231 = .ok (.invokevirtual 253, 3) := dc_182 (a := 0) (b := 253) (n := 253) (by decide +kernel)
theorem dX37_breakUp_234 : decode cX37_breakUp 234 = .ok (.putfield 119, 3) := dc_181 (a := 0) (b := 119) (n := 119) (by decide +kernel)
theorem dX37_breakUp_237 : decode cX37_breakUp 237 = .ok (.aload_n 0, 1) := dc_42 (by decide +kernel)
theorem dX37_breakUp_238 : decode cX37_breakUp 238 = .ok (.invokevirtual 257, 3) := dc_182 (a := 1) (b := 1) (n := 257) (by decide +kernel)
theorem dX37_breakUp_241 : decode cX37_breakUp 241 = .ok (.iconst 0, 1) := dc_3 (by decide +kernel)
theorem dX37_breakUp_242 : decode cX37_breakUp 242 = .ok (.istore 10, 2) := dc_54 (a := 10) (by decide +kernel)
theorem dX37_breakUp_244 : decode cX37_breakUp 244 = .ok (.iconst 0, 1) := dc_3 (by decide +kernel)
theorem dX37_breakUp_245 : decode cX37_breakUp 245 = .ok (.istore 11, 2) := dc_54 (a := 11) (by decide +kernel)
theorem dX37_breakUp_247 : decode cX37_breakUp 247 = .ok (.aload_n 0, 1) := dc_42 (by decide +kernel)
theorem dX37_breakUp_248 : decode cX37_breakUp 248 = .ok (.iconst 0, 1) := dc_3 (by decide +kernel)
theorem dX37_breakUp_249 : decode cX37_breakUp 249 = .ok (.putfield 108, 3) := dc_181 (a := 0) (b := 108) (n := 108) (by decide +kernel)
theorem dX37_breakUp_252 : decode cX37_breakUp 252 = .ok (.aload_n 0, 1) := dc_42 (by decide +kernel)
theorem dX37_breakUp_253 : decode cX37_breakUp 253 = .ok (.getfield 34, 3) := dc_180 (a := 0) (b := 34) (n := 34) (by decide +kernel)
theorem dX37_breakUp_256 : decode cX37_breakUp 256 = .ok (.bipush 8, 2) := dc_16 (a := 8) (v := 8) (by decide +kernel)
theorem dX37_breakUp_258 : decode cX37_breakUp 258 = .ok (.iaload, 1) := dc_46 (by decide +kernel)
theorem dX37_breakUp_259 : decode cX37_breakUp 259 = .ok (.ifCond .le 7, 3) := dc_158 (a := 0) (b := 7) (v := 7) (by decide +kernel)
theorem dX37_breakUp_262 : decode cX37_breakUp 262 = .ok (.iconst 3, 1) := dc_6 (by decide +kernel)
theorem dX37_breakUp_263 : decode cX37_breakUp 263 = .ok (.goto 4, 3) := dc_167 (a := 0) (b := 4) (v := 4) (by decide +kernel)
theorem dX37_breakUp_266 : decode cX37_breakUp 266 = .ok (.iconst 2, 1) := dc_5 (by decide +kernel)
theorem dX37_breakUp_267 : decode cX37_breakUp 267 = .ok (.istore 12, 2) := dc_54 (a := 12) (by decide +kernel)
theorem dX37_breakUp_269 : decode cX37_breakUp 269 = .ok (.aload_n 0, 1) := dc_42 (by decide +kernel)
theorem dX37_breakUp_270 : decode cX37_breakUp 270 = .ok (.aload_n 0, 1) := dc_42 (by decide +kernel)
theorem dX37_breakUp_271 : decode cX37_breakUp 271 = .ok (.getfield 34, 3) := dc_180 (a := 0) (b := 34) (n := 34) (by decide +kernel)
theorem dX37_breakUp_274 : decode cX37_breakUp 274 = .ok (.iconst 0, 1) := dc_3 (by decide +kernel)
theorem dX37_breakUp_275 : decode cX37_breakUp 275 = .ok (.iaload, 1) := dc_46 (by decide +kernel)
theorem dX37_breakUp_276 : decode cX37_breakUp 276 = .ok (.ifCond .ge 7, 3) := dc_156 (a := 0) (b := 7) (v := 7) (by decide +kernel)
theorem dX37_breakUp_279 : decode cX37_breakUp 279 = .ok (.iconst 2, 1) := dc_5 (by decide +kernel)
theorem dX37_breakUp_280 : decode cX37_breakUp 280 = .ok (.goto 4, 3) := dc_167 (a := 0) (b := 4) (v := 4) (by decide +kernel)
theorem dX37_breakUp_283 : decode cX37_breakUp 283 = .ok (.iconst 1, 1) := dc_4 (by decide +kernel)
theorem dX37_breakUp_284 : decode cX37_breakUp 284 = .ok (.putfield 122, 3) := dc_181 (a := 0) (b := 122) (n := 122) (by decide +kernel)
theorem dX37_breakUp_287 : decode cX37_breakUp 287 = .ok (.aload_n 0, 1) := dc_42 (by decide +kernel)
theorem dX37_breakUp_288 : decode cX37_breakUp 288 = .ok (.getfield 122, 3) := dc_180 (a := 0) (b := 122) (n := 122) (by decide +kernel)
theorem dX37_breakUp_291 : decode cX37_breakUp 291 = .ok (.iload 12, 2) := dc_21 (a := 12) (by decide +kernel)
theorem dX37_breakUp_293 : decode cX37_breakUp 293 = .ok (.if_icmp .gt 60, 3) := dc_163 (a := 0) (b := 60) (v := 60) (by decide +kernel)
theorem dX37_breakUp_296 : decode cX37_breakUp 296 = .ok (.iload 11, 2) := dc_21 (a := 11) (by decide +kernel)
theorem dX37_breakUp_298 : decode cX37_breakUp 298 = .ok (.ifCond .ne 55, 3) := dc_154 (a := 0) (b := 55) (v := 55) (by decide +kernel)
theorem dX37_breakUp_301 : decode cX37_breakUp 301 = .ok (.aload_n 0, 1) := dc_42 (by decide +kernel)
theorem dX37_breakUp_302 : decode cX37_breakUp 302 = .ok (.invokevirtual 260, 3) := dc_182 (a := 1) (b := 4) (n := 260) (by decide +kernel)
theorem dX37_breakUp_305 : decode cX37_breakUp 305 = .ok (.ifCond .ne 13, 3) := dc_154 (a := 0) (b := 13) (v := 13) (by decide +kernel)
theorem dX37_breakUp_308 : decode cX37_breakUp 308 = .ok (.bipush (-2), 2) := dc_16 (a := 254) (v := -2) (by decide +kernel)
theorem dX37_breakUp_310 : decode cX37_breakUp 310 = .ok (.istore 10, 2) := dc_54 (a := 10) (by decide +kernel)
theorem dX37_breakUp_312 : decode cX37_breakUp 312 = .ok (.iconst 1, 1) := dc_4 (by decide +kernel)
theorem dX37_breakUp_313 : decode cX37_breakUp 313 = .ok (.istore 11, 2) := dc_54 (a := 11) (by decide +kernel)
theorem dX37_breakUp_315 : decode cX37_breakUp 315 = .ok (.goto 25, 3) := dc_167 (a := 0) (b := 25) (v := 25) (by decide +kernel)
theorem dX37_breakUp_318 : decode cX37_breakUp 318 = .ok (.aload_n 0, 1) := dc_42 (by decide +kernel)
theorem dX37_breakUp_319 : decode cX37_breakUp 319 = .ok (.invokevirtual 263, 3) := dc_182 (a := 1) (b := 7) (n := 263) (by decide +kernel)
theorem dX37_breakUp_322 : decode cX37_breakUp 322 = .ok (.istore 13, 2) := dc_54 (a := 13) (by decide +kernel)
theorem dX37_breakUp_324 : decode cX37_breakUp 324 = .ok (.iload 13, 2) := dc_21 (a := 13) (by decide +kernel)
theorem dX37_breakUp_326 : decode cX37_breakUp 326 = .ok (.ifCond .lt 14, 3) := dc_155 (a := 0) (b := 14) (v := 14) (by decide +kernel)
theorem dX37_breakUp_329 : decode cX37_breakUp 329 = .ok (.aload_n 0, 1) := dc_42 (by decide +kernel)
theorem dX37_breakUp_330 : decode cX37_breakUp 330 = .ok (.iload 13, 2) := dc_21 (a := 13) (by decide +kernel)
theorem dX37_breakUp_332 : decode cX37_breakUp 332 = .ok (.invokevirtual 267, 3) := dc_182 (a := 1) (b := 11) (n := 267) (by decide +kernel)
theorem dX37_breakUp_335 : decode cX37_breakUp 335 = .ok (.istore 10, 2) := dc_54 (a := 10) (by decide +kernel)
theorem dX37_breakUp_337 : decode cX37_breakUp 337 = .ok (.iconst 1, 1) := dc_4 (by decide +kernel)
theorem dX37_breakUp_338 : decode cX37_breakUp 338 = .ok (.istore 11, 2) := dc_54 (a := 11) (by decide +kernel)
theorem dX37_breakUp_340 : decode cX37_breakUp 340 = .ok (.aload_n 0, 1) := dc_42 (by decide +kernel)
theorem dX37_breakUp_341 : decode cX37_breakUp 341 = .ok (.dup, 1) := dc_89 (by decide +kernel)
theorem dX37_breakUp_342 : decode cX37_breakUp 342 = .ok (.getfield 122, 3) := dc_180 (a := 0) (b := 122) (n := 122) (by decide +kernel)
theorem dX37_breakUp_345 : decode cX37_breakUp 345 = .ok (.iconst 1, 1) := dc_4 (by decide +kernel)
theorem dX37_breakUp_346 : decode cX37_breakUp 346 = .ok (.iadd, 1) := dc_96 (by decide +kernel)
theorem dX37_breakUp_347 : decode cX37_breakUp 347 = .ok (.putfield 122, 3) := dc_181 (a := 0) (b := 122) (n := 122) (by decide +kernel)
theorem dX37_breakUp_350 : decode cX37_breakUp 350 = .ok (.goto (-63), 3) := dc_167 (a := 255) (b := 193) (v := -63) (by decide +kernel)
theorem dX37_breakUp_353 : decode cX37_breakUp 353 = .ok (.aload_n 0, 1) := dc_42 (by decide +kernel)
theorem dX37_breakUp_354 : decode cX37_breakUp 354 = .ok (.iload_n 2, 1) := dc_28 (by decide +kernel)
theorem dX37_breakUp_355 : decode cX37_breakUp 355 = .ok (.putfield 104, 3) := dc_181 (a := 0) (b := 104) (n := 104) (by decide +kernel)
theorem dX37_breakUp_358 : decode cX37_breakUp 358 = .ok (.aload_n 0, 1) := dc_42 (by decide +kernel)
theorem dX37_breakUp_359 : decode cX37_breakUp 359 = .ok (.getfield 7, 3) := dc_180 (a := 0) (b := 7) (n := 7) (by decide +kernel)
theorem dX37_breakUp_362 : decode cX37_breakUp 362 = .ok (.iload_n 3, 1) := dc_29 (by decide +kernel)
theorem dX37_breakUp_363 : decode cX37_breakUp 363 = .ok (.iload 4, 2) := dc_21 (a := 4) (by decide +kernel)
theorem dX37_breakUp_365 : decode cX37_breakUp 365 = .ok (.iastore, 1) := dc_79 (by decide +kernel)
theorem dX37_breakUp_366 : decode cX37_breakUp 366 = .ok (.aload_n 0, 1) := dc_42 (by decide +kernel)
theorem dX37_breakUp_367 : decode cX37_breakUp 367 = .ok (.getfield 13, 3) := dc_180 (a := 0) (b := 13) (n := 13) (by decide +kernel)
theorem dX37_breakUp_370 : decode cX37_breakUp 370 = .ok (.iload_n 3, 1) := dc_29 (by decide +kernel)
theorem dX37_breakUp_371 : decode cX37_breakUp 371 = .ok (.iload 5, 2) := dc_21 (a := 5) (by decide +kernel)
theorem dX37_breakUp_373 : decode cX37_breakUp 373 = .ok (.iastore, 1) := dc_79 (by decide +kernel)
theorem dX37_breakUp_374 : decode cX37_breakUp 374 = .ok (.aload_n 0, 1) := dc_42 (by decide +kernel)
theorem dX37_breakUp_375 : decode cX37_breakUp 375 = .ok (.getfield 16, 3) := dc_180 (a := 0) (b := 16) (n := 16) (by decide +kernel)
theorem dX37_breakUp_378 : decode cX37_breakUp 378 = .ok (.iload_n 3, 1) := dc_29 (by decide +kernel)
theorem dX37_breakUp_379 : decode cX37_breakUp 379 = .ok (.iload 6, 2) := dc_21 (a := 6) (by decide +kernel)
theorem dX37_breakUp_381 : decode cX37_breakUp 381 = .ok (.iastore, 1) := dc_79 (by decide +kernel)
theorem dX37_breakUp_382 : decode cX37_breakUp 382 = .ok (.aload_n 0, 1) := dc_42 (by decide +kernel)
theorem dX37_breakUp_383 : decode cX37_breakUp 383 = .ok (.getfield 19, 3) := dc_180 (a := 0) (b := 19) (n := 19) (by decide +kernel)
theorem dX37_breakUp_386 : decode cX37_breakUp 386 = .ok (.iload_n 3, 1) := dc_29 (by decide +kernel)
theorem dX37_breakUp_387 : decode cX37_breakUp 387 = .ok (.iload 7, 2) := dc_21 (a := 7) (by decide +kernel)
theorem dX37_breakUp_389 : decode cX37_breakUp 389 = .ok (.iastore, 1) := dc_79 (by decide +kernel)
theorem dX37_breakUp_390 : decode cX37_breakUp 390 = .ok (.aload_n 0, 1) := dc_42 (by decide +kernel)
theorem dX37_breakUp_391 : decode cX37_breakUp 391 = .ok (.getfield 22, 3) := dc_180 (a := 0) (b := 22) (n := 22) (by decide +kernel)
theorem dX37_breakUp_394 : decode cX37_breakUp 394 = .ok (.iload_n 3, 1) := dc_29 (by decide +kernel)
theorem dX37_breakUp_395 : decode cX37_breakUp 395 = .ok (.iload 8, 2) := dc_21 (a := 8) (by decide +kernel)
theorem dX37_breakUp_397 : decode cX37_breakUp 397 = .ok (.iastore, 1) := dc_79 (by decide +kernel)
theorem dX37_breakUp_398 : decode cX37_breakUp 398 = .ok (.iload 10, 2) := dc_21 (a := 10) (by decide +kernel)
theorem dX37_breakUp_400 : decode cX37_breakUp 400 = .ok (.ireturn, 1) := dc_172 (by decide +kernel)
theorem GX37_250 {w : eW} {d : Nat} {Y : eY} {pc : Nat} {ls : eL} {st : List Value} {h : eH} {Q : eO → eH → Prop} {a : Nat} {x : Int32} (hf : g_I 36 h a 0 = some x) (hd : decode Y.2.1 pc = .ok (.getfield 250, 3)) (hY : Y.1.cls = RX37) (kk : wp w d Y (pc + 3) ls (.int x :: st) h Q) : wp w d Y pc ls (.ref a :: st) h Q := x_gI (ci := 36) (k := 0) hf hd rfl (by decide) (by rw [hY]; exact q4226) kk
theorem SX37_119 {w : eW} {d : Nat} {Y : eY} {pc : Nat} {ls : eL} {st : List Value} {h : eH} {Q : eO → eH → Prop} {a : Nat} {h' : eH} {x : Int32} (hf : p_V 36 h a 17 (.int x) = some h') (hd : decode Y.2.1 pc = .ok (.putfield 119, 3)) (hY : Y.1.cls = RX37) (kk : wp w d Y (pc + 3) ls st h' Q) : wp w d Y pc ls (.int x :: .ref a :: st) h Q := x_pI (ci := 36) (k := 17) hf hd rfl (by decide) (by rw [hY]; exact q4251) rfl rfl kk
theorem SX37_122 {w : eW} {d : Nat} {Y : eY} {pc : Nat} {ls : eL} {st : List Value} {h : eH} {Q : eO → eH → Prop} {a : Nat} {h' : eH} {x : Int32} (hf : p_V 36 h a 16 (.int x) = some h') (hd : decode Y.2.1 pc = .ok (.putfield 122, 3)) (hY : Y.1.cls = RX37) (kk : wp w d Y (pc + 3) ls st h' Q) : wp w d Y pc ls (.int x :: .ref a :: st) h Q := x_pI (ci := 36) (k := 16) hf hd rfl (by decide) (by rw [hY]; exact q4250) rfl rfl kk
theorem SX37_250 {w : eW} {d : Nat} {Y : eY} {pc : Nat} {ls : eL} {st : List Value} {h : eH} {Q : eO → eH → Prop} {a : Nat} {h' : eH} {x : Int32} (hf : p_V 36 h a 0 (.int x) = some h') (hd : decode Y.2.1 pc = .ok (.putfield 250, 3)) (hY : Y.1.cls = RX37) (kk : wp w d Y (pc + 3) ls st h' Q) : wp w d Y pc ls (.int x :: .ref a :: st) h Q := x_pI (ci := 36) (k := 0) hf hd rfl (by decide) (by rw [hY]; exact q4226) rfl rfl kk
def fX37_breakUp_b46 (N : Nat) (k4 : Nat → Int32 → Int32 → eH → Option (Int32 × eH)) (l0 : Nat) (l2 : Int32) (s0 : Int32) (h : eH) : Option (Int32 × eH) :=
  k4 l0 s0 (l2 + (1 : Int32)) h
theorem pX37_breakUp_b46 {w : eW} {d : Nat} (hd : 5 ≤ d + 1) {N : Nat} {k4 : Nat → Int32 → Int32 → eH → Option (Int32 × eH)} (hk4 : ∀ l0 l1 l2 h q, k4 l0 l1 l2 h = some q → wp w (d + 1) YX37_breakUp 4 [some (.ref l0), some (.int l1), some (.int l2), none, none, none, none, none, none, none, none, none, none, none] [] h (e_is (e_rn c_I q))) {l0 : Nat} {l2 : Int32} {s0 : Int32} {h : eH} {q} (hf : fX37_breakUp_b46 N k4 l0 l2 s0 h = some q) : wp w (d + 1) YX37_breakUp 46 [some (.ref l0), none, some (.int l2), none, none, none, none, none, none, none, none, none, none, none] [.int s0] h (e_is (e_rn c_I q)) := by
  unfold fX37_breakUp_b46 at hf
  refine w_istore_n dX37_breakUp_46 rfl (by decide) (ls' := [some (.ref l0), some (.int s0), some (.int l2), none, none, none, none, none, none, none, none, none, none, none]) rfl ?_
  refine w_iinc dX37_breakUp_47 (v := (l2 + (1 : Int32))) rfl rfl (by decide) (ls' := [some (.ref l0), some (.int s0), some (.int (l2 + (1 : Int32))), none, none, none, none, none, none, none, none, none, none, none]) rfl ?_
  refine w_goto 4 dX37_breakUp_50 (by decide) ?_
  exact (hk4 _ _ _ _ _ hf).to ⟨rfl, rfl, rfl, trivial⟩
def fX37_breakUp_b41 (N : Nat) (k4 : Nat → Int32 → Int32 → eH → Option (Int32 × eH)) (l0 : Nat) (l2 : Int32) (h : eH) : Option (Int32 × eH) :=
  fX37_breakUp_b46 N k4 l0 l2 (1 : Int32) h
theorem pX37_breakUp_b41 {w : eW} {d : Nat} (hd : 5 ≤ d + 1) {N : Nat} {k4 : Nat → Int32 → Int32 → eH → Option (Int32 × eH)} (hk4 : ∀ l0 l1 l2 h q, k4 l0 l1 l2 h = some q → wp w (d + 1) YX37_breakUp 4 [some (.ref l0), some (.int l1), some (.int l2), none, none, none, none, none, none, none, none, none, none, none] [] h (e_is (e_rn c_I q))) {l0 : Nat} {l2 : Int32} {h : eH} {q} (hf : fX37_breakUp_b41 N k4 l0 l2 h = some q) : wp w (d + 1) YX37_breakUp 41 [some (.ref l0), none, some (.int l2), none, none, none, none, none, none, none, none, none, none, none] [] h (e_is (e_rn c_I q)) := by
  unfold fX37_breakUp_b41 at hf
  refine w_iconst dX37_breakUp_41 (v := 1) (by decide) ?_
  refine w_goto 46 dX37_breakUp_42 (by decide) ?_
  exact (pX37_breakUp_b46 hd hk4 hf).to ⟨rfl, rfl, trivial⟩
def fX37_breakUp_b45 (N : Nat) (k4 : Nat → Int32 → Int32 → eH → Option (Int32 × eH)) (l0 : Nat) (l2 : Int32) (h : eH) : Option (Int32 × eH) :=
  fX37_breakUp_b46 N k4 l0 l2 (0 : Int32) h
theorem pX37_breakUp_b45 {w : eW} {d : Nat} (hd : 5 ≤ d + 1) {N : Nat} {k4 : Nat → Int32 → Int32 → eH → Option (Int32 × eH)} (hk4 : ∀ l0 l1 l2 h q, k4 l0 l1 l2 h = some q → wp w (d + 1) YX37_breakUp 4 [some (.ref l0), some (.int l1), some (.int l2), none, none, none, none, none, none, none, none, none, none, none] [] h (e_is (e_rn c_I q))) {l0 : Nat} {l2 : Int32} {h : eH} {q} (hf : fX37_breakUp_b45 N k4 l0 l2 h = some q) : wp w (d + 1) YX37_breakUp 45 [some (.ref l0), none, some (.int l2), none, none, none, none, none, none, none, none, none, none, none] [] h (e_is (e_rn c_I q)) := by
  unfold fX37_breakUp_b45 at hf
  refine w_iconst dX37_breakUp_45 (v := 0) (by decide) ?_
  exact (pX37_breakUp_b46 hd hk4 hf).to ⟨rfl, rfl, trivial⟩
def fX37_breakUp_b340 (N : Nat) (k287 : Nat → Int32 → Int32 → Int32 → Int32 → Int32 → Int32 → Int32 → Int32 → Int32 → Int32 → eH → Option (Int32 × eH)) (l0 : Nat) (l2 : Int32) (l3 : Int32) (l4 : Int32) (l5 : Int32) (l6 : Int32) (l7 : Int32) (l8 : Int32) (l10 : Int32) (l11 : Int32) (l12 : Int32) (h : eH) : Option (Int32 × eH) :=
  (g_I 36 h l0 16).bind fun x1 =>
  (p_V 36 h l0 16 (.int (x1 + (1 : Int32)))).bind fun h3 =>
  k287 l0 l2 l3 l4 l5 l6 l7 l8 l10 l11 l12 h3
theorem pX37_breakUp_b340 {w : eW} {d : Nat} (hd : 5 ≤ d + 1) {N : Nat} {k287 : Nat → Int32 → Int32 → Int32 → Int32 → Int32 → Int32 → Int32 → Int32 → Int32 → Int32 → eH → Option (Int32 × eH)} (hk287 : ∀ l0 l2 l3 l4 l5 l6 l7 l8 l10 l11 l12 h q, k287 l0 l2 l3 l4 l5 l6 l7 l8 l10 l11 l12 h = some q → wp w (d + 1) YX37_breakUp 287 [some (.ref l0), none, some (.int l2), some (.int l3), some (.int l4), some (.int l5), some (.int l6), some (.int l7), some (.int l8), none, some (.int l10), some (.int l11), some (.int l12), none] [] h (e_is (e_rn c_I q))) {l0 : Nat} {l2 : Int32} {l3 : Int32} {l4 : Int32} {l5 : Int32} {l6 : Int32} {l7 : Int32} {l8 : Int32} {l10 : Int32} {l11 : Int32} {l12 : Int32} {h : eH} {q} (hf : fX37_breakUp_b340 N k287 l0 l2 l3 l4 l5 l6 l7 l8 l10 l11 l12 h = some q) : wp w (d + 1) YX37_breakUp 340 [some (.ref l0), none, some (.int l2), some (.int l3), some (.int l4), some (.int l5), some (.int l6), some (.int l7), some (.int l8), none, some (.int l10), some (.int l11), some (.int l12), none] [] h (e_is (e_rn c_I q)) := by
  unfold fX37_breakUp_b340 at hf
  refine w_aload_n dX37_breakUp_340 rfl rfl ?_
  refine w_dup dX37_breakUp_341 rfl ?_
  obtain ⟨x1, b2, hf⟩ := Option.bind_eq_some_iff.mp hf
  refine GX37_122 b2 dX37_breakUp_342 rfl ?_
  refine w_iconst dX37_breakUp_345 (v := 1) (by decide) ?_
  refine w_iadd dX37_breakUp_346 ?_
  obtain ⟨h3, b4, hf⟩ := Option.bind_eq_some_iff.mp hf
  refine SX37_122 b4 dX37_breakUp_347 rfl ?_
  refine w_goto 287 dX37_breakUp_350 (by decide) ?_
  exact (hk287 _ _ _ _ _ _ _ _ _ _ _ _ _ hf).to ⟨rfl, rfl, rfl, rfl, rfl, rfl, rfl, rfl, rfl, rfl, rfl, trivial⟩
def fX37_breakUp_b353 (N : Nat) (l0 : Nat) (l2 : Int32) (l3 : Int32) (l4 : Int32) (l5 : Int32) (l6 : Int32) (l7 : Int32) (l8 : Int32) (l10 : Int32) (h : eH) : Option (Int32 × eH) :=
  (p_V 36 h l0 1 (.int l2)).bind fun h1 =>
  (g_A 36 h1 l0 2).bind fun a3 =>
  (q_V 100 h1 a3 l3 (.int l4)).bind fun h5 =>
  (g_A 36 h5 l0 3).bind fun a7 =>
  (q_V 100 h5 a7 l3 (.int l5)).bind fun h9 =>
  (g_A 36 h9 l0 4).bind fun a11 =>
  (q_V 100 h9 a11 l3 (.int l6)).bind fun h13 =>
  (g_A 36 h13 l0 5).bind fun a15 =>
  (q_V 100 h13 a15 l3 (.int l7)).bind fun h17 =>
  (g_A 36 h17 l0 6).bind fun a19 =>
  (q_V 100 h17 a19 l3 (.int l8)).bind fun h21 =>
  some (l10, h21)
theorem pX37_breakUp_b353 {w : eW} {d : Nat} (hd : 5 ≤ d + 1) {N : Nat} {l0 : Nat} {l2 : Int32} {l3 : Int32} {l4 : Int32} {l5 : Int32} {l6 : Int32} {l7 : Int32} {l8 : Int32} {l10 : Int32} {h : eH} {q} (hf : fX37_breakUp_b353 N l0 l2 l3 l4 l5 l6 l7 l8 l10 h = some q) : wp w (d + 1) YX37_breakUp 353 [some (.ref l0), none, some (.int l2), some (.int l3), some (.int l4), some (.int l5), some (.int l6), some (.int l7), some (.int l8), none, some (.int l10), none, none, none] [] h (e_is (e_rn c_I q)) := by
  unfold fX37_breakUp_b353 at hf
  refine w_aload_n dX37_breakUp_353 rfl rfl ?_
  refine w_iload_n dX37_breakUp_354 rfl rfl ?_
  obtain ⟨h1, b2, hf⟩ := Option.bind_eq_some_iff.mp hf
  refine SX37_104 b2 dX37_breakUp_355 rfl ?_
  refine w_aload_n dX37_breakUp_358 rfl rfl ?_
  obtain ⟨a3, b4, hf⟩ := Option.bind_eq_some_iff.mp hf
  refine GX37_7 b4 dX37_breakUp_359 rfl ?_
  refine w_iload_n dX37_breakUp_362 rfl rfl ?_
  refine w_iload dX37_breakUp_363 rfl ?_
  obtain ⟨h5, b6, hf⟩ := Option.bind_eq_some_iff.mp hf
  refine x_qI b6 dX37_breakUp_365 ?_
  refine w_aload_n dX37_breakUp_366 rfl rfl ?_
  obtain ⟨a7, b8, hf⟩ := Option.bind_eq_some_iff.mp hf
  refine GX37_13 b8 dX37_breakUp_367 rfl ?_
  refine w_iload_n dX37_breakUp_370 rfl rfl ?_
  refine w_iload dX37_breakUp_371 rfl ?_
  obtain ⟨h9, b10, hf⟩ := Option.bind_eq_some_iff.mp hf
  refine x_qI b10 dX37_breakUp_373 ?_
  refine w_aload_n dX37_breakUp_374 rfl rfl ?_
  obtain ⟨a11, b12, hf⟩ := Option.bind_eq_some_iff.mp hf
  refine GX37_16 b12 dX37_breakUp_375 rfl ?_
  refine w_iload_n dX37_breakUp_378 rfl rfl ?_
  refine w_iload dX37_breakUp_379 rfl ?_
  obtain ⟨h13, b14, hf⟩ := Option.bind_eq_some_iff.mp hf
  refine x_qI b14 dX37_breakUp_381 ?_
  refine w_aload_n dX37_breakUp_382 rfl rfl ?_
  obtain ⟨a15, b16, hf⟩ := Option.bind_eq_some_iff.mp hf
  refine GX37_19 b16 dX37_breakUp_383 rfl ?_
  refine w_iload_n dX37_breakUp_386 rfl rfl ?_
  refine w_iload dX37_breakUp_387 rfl ?_
  obtain ⟨h17, b18, hf⟩ := Option.bind_eq_some_iff.mp hf
  refine x_qI b18 dX37_breakUp_389 ?_
  refine w_aload_n dX37_breakUp_390 rfl rfl ?_
  obtain ⟨a19, b20, hf⟩ := Option.bind_eq_some_iff.mp hf
  refine GX37_22 b20 dX37_breakUp_391 rfl ?_
  refine w_iload_n dX37_breakUp_394 rfl rfl ?_
  refine w_iload dX37_breakUp_395 rfl ?_
  obtain ⟨h21, b22, hf⟩ := Option.bind_eq_some_iff.mp hf
  refine x_qI b22 dX37_breakUp_397 ?_
  refine w_iload dX37_breakUp_398 rfl ?_
  cases hf
  exact w_iret dX37_breakUp_400 rfl rfl rfl
def fX37_breakUp_b287 (N : Nat) : Nat → Nat → Int32 → Int32 → Int32 → Int32 → Int32 → Int32 → Int32 → Int32 → Int32 → Int32 → eH → Option (Int32 × eH)
  | 0, _, _, _, _, _, _, _, _, _, _, _, _ => none
  | n + 1, l0, l2, l3, l4, l5, l6, l7, l8, l10, l11, l12, h =>
    (g_I 36 h l0 16).bind fun x1 =>
    if l12 < x1 then
      fX37_breakUp_b353 N l0 l2 l3 l4 l5 l6 l7 l8 l10 h
    else
      if ¬ l11 = 0 then
        fX37_breakUp_b353 N l0 l2 l3 l4 l5 l6 l7 l8 l10 h
      else
        (k_ok 36 h l0).bind fun _ =>
        (fX37_make N l0 h).bind fun q6 =>
        if ¬ q6.1 = 0 then
          (k_ok 36 q6.2 l0).bind fun _ =>
          (fX37_choose N l0 q6.2).bind fun q9 =>
          if q9.1 < 0 then
            fX37_breakUp_b340 N (fX37_breakUp_b287 N n) l0 l2 l3 l4 l5 l6 l7 l8 l10 l11 l12 q9.2
          else
            (k_ok 36 q9.2 l0).bind fun _ =>
            (fX37_tell N l0 q9.1 q9.2).bind fun q12 =>
            fX37_breakUp_b340 N (fX37_breakUp_b287 N n) l0 l2 l3 l4 l5 l6 l7 l8 q12.1 (1 : Int32) l12 q12.2
        else
          fX37_breakUp_b340 N (fX37_breakUp_b287 N n) l0 l2 l3 l4 l5 l6 l7 l8 (-2 : Int32) (1 : Int32) l12 q6.2
theorem pX37_breakUp_b287 {w : eW} {d : Nat} (hd : 5 ≤ d + 1) {N : Nat} : ∀ (n : Nat) l0 l2 l3 l4 l5 l6 l7 l8 l10 l11 l12 h q, fX37_breakUp_b287 N n l0 l2 l3 l4 l5 l6 l7 l8 l10 l11 l12 h = some q → wp w (d + 1) YX37_breakUp 287 [some (.ref l0), none, some (.int l2), some (.int l3), some (.int l4), some (.int l5), some (.int l6), some (.int l7), some (.int l8), none, some (.int l10), some (.int l11), some (.int l12), none] [] h (e_is (e_rn c_I q)) := by
  intro n
  induction n with
  | zero => intro l0 l2 l3 l4 l5 l6 l7 l8 l10 l11 l12 h q hf; simp [fX37_breakUp_b287] at hf
  | succ n ih =>
    intro l0 l2 l3 l4 l5 l6 l7 l8 l10 l11 l12 h q hf
    rw [fX37_breakUp_b287] at hf
    refine w_aload_n dX37_breakUp_287 rfl rfl ?_
    obtain ⟨x1, b2, hf⟩ := Option.bind_eq_some_iff.mp hf
    refine GX37_122 b2 dX37_breakUp_288 rfl ?_
    refine w_iload dX37_breakUp_291 rfl ?_
    refine w_icmp_gt 353 dX37_breakUp_293 (by decide) (fun c3 => ?_) (fun c3 => ?_)
    · replace hf := (if_pos (show l12 < x1 from c3)).symm.trans hf
      exact (pX37_breakUp_b353 hd hf).to ⟨rfl, rfl, rfl, rfl, rfl, rfl, rfl, rfl, rfl, trivial⟩
    · replace hf := (if_neg (show ¬ (l12 < x1) from c3)).symm.trans hf
      refine w_iload dX37_breakUp_296 rfl ?_
      refine w_if_ne 353 dX37_breakUp_298 (by decide) (fun c4 => ?_) (fun c4 => ?_)
      · replace hf := (if_pos (show ¬ l11 = 0 from c4)).symm.trans hf
        exact (pX37_breakUp_b353 hd hf).to ⟨rfl, rfl, rfl, rfl, rfl, rfl, rfl, rfl, rfl, trivial⟩
      · replace hf := (if_neg (show ¬ (¬ l11 = 0) from (fun z => z c4))).symm.trans hf
        refine w_aload_n dX37_breakUp_301 rfl rfl ?_
        obtain ⟨_, b5, hf⟩ := Option.bind_eq_some_iff.mp hf
        refine x_cnI hf (e_stV (Yc := YX37_make) (ci := 36) (av := []) (st := []) dX37_breakUp_302 q5786 mX37_make rfl (k_ok_some b5).1 (k_ok_some b5).2) mX37_make.2.2.1 mX37_make.2.2.2.2.1 (Nat.le_of_ble_eq_true rfl) (Nat.le_of_ble_eq_true rfl) (fun q hq => pX37_make (by omega) hq) (fun q6 hf => ?_)
        refine w_if_ne 318 dX37_breakUp_305 (by decide) (fun c7 => ?_) (fun c7 => ?_)
        · replace hf := (if_pos (show ¬ q6.1 = 0 from c7)).symm.trans hf
          refine w_aload_n dX37_breakUp_318 rfl rfl ?_
          obtain ⟨_, b8, hf⟩ := Option.bind_eq_some_iff.mp hf
          refine x_cnI hf (e_stV (Yc := YX37_choose) (ci := 36) (av := []) (st := []) dX37_breakUp_319 q5856 mX37_choose rfl (k_ok_some b8).1 (k_ok_some b8).2) mX37_choose.2.2.1 mX37_choose.2.2.2.2.1 (Nat.le_of_ble_eq_true rfl) (Nat.le_of_ble_eq_true rfl) (fun q hq => pX37_choose (by omega) hq) (fun q9 hf => ?_)
          refine w_istore dX37_breakUp_322 (by decide) (ls' := [some (.ref l0), none, some (.int l2), some (.int l3), some (.int l4), some (.int l5), some (.int l6), some (.int l7), some (.int l8), none, some (.int l10), some (.int l11), some (.int l12), some (.int q9.1)]) rfl ?_
          refine w_iload dX37_breakUp_324 rfl ?_
          refine w_if_lt 340 dX37_breakUp_326 (by decide) (fun c10 => ?_) (fun c10 => ?_)
          · replace hf := (if_pos (show q9.1 < 0 from c10)).symm.trans hf
            exact (pX37_breakUp_b340 hd ih hf).to ⟨rfl, rfl, rfl, rfl, rfl, rfl, rfl, rfl, rfl, rfl, rfl, trivial⟩
          · replace hf := (if_neg (show ¬ (q9.1 < 0) from c10)).symm.trans hf
            refine w_aload_n dX37_breakUp_329 rfl rfl ?_
            refine w_iload dX37_breakUp_330 rfl ?_
            obtain ⟨_, b11, hf⟩ := Option.bind_eq_some_iff.mp hf
            refine x_cnI hf (e_stV (Yc := YX37_tell) (ci := 36) (av := [.int q9.1]) (st := []) dX37_breakUp_332 q5867 mX37_tell rfl (k_ok_some b11).1 (k_ok_some b11).2) mX37_tell.2.2.1 mX37_tell.2.2.2.2.1 (Nat.le_of_ble_eq_true rfl) (Nat.le_of_ble_eq_true rfl) (fun q hq => pX37_tell (by omega) hq) (fun q12 hf => ?_)
            refine w_istore dX37_breakUp_335 (by decide) (ls' := [some (.ref l0), none, some (.int l2), some (.int l3), some (.int l4), some (.int l5), some (.int l6), some (.int l7), some (.int l8), none, some (.int q12.1), some (.int l11), some (.int l12), some (.int q9.1)]) rfl ?_
            refine w_iconst dX37_breakUp_337 (v := 1) (by decide) ?_
            refine w_istore dX37_breakUp_338 (by decide) (ls' := [some (.ref l0), none, some (.int l2), some (.int l3), some (.int l4), some (.int l5), some (.int l6), some (.int l7), some (.int l8), none, some (.int q12.1), some (.int (1 : Int32)), some (.int l12), some (.int q9.1)]) rfl ?_
            exact (pX37_breakUp_b340 hd ih hf).to ⟨rfl, rfl, rfl, rfl, rfl, rfl, rfl, rfl, rfl, rfl, rfl, trivial⟩
        · replace hf := (if_neg (show ¬ (¬ q6.1 = 0) from (fun z => z c7))).symm.trans hf
          refine w_bipush dX37_breakUp_308 (v := -2) (by decide) ?_
          refine w_istore dX37_breakUp_310 (by decide) (ls' := [some (.ref l0), none, some (.int l2), some (.int l3), some (.int l4), some (.int l5), some (.int l6), some (.int l7), some (.int l8), none, some (.int (-2 : Int32)), some (.int l11), some (.int l12), none]) rfl ?_
          refine w_iconst dX37_breakUp_312 (v := 1) (by decide) ?_
          refine w_istore dX37_breakUp_313 (by decide) (ls' := [some (.ref l0), none, some (.int l2), some (.int l3), some (.int l4), some (.int l5), some (.int l6), some (.int l7), some (.int l8), none, some (.int (-2 : Int32)), some (.int (1 : Int32)), some (.int l12), none]) rfl ?_
          refine w_goto 340 dX37_breakUp_315 (by decide) ?_
          exact (pX37_breakUp_b340 hd ih hf).to ⟨rfl, rfl, rfl, rfl, rfl, rfl, rfl, rfl, rfl, rfl, rfl, trivial⟩
def fX37_breakUp_b284 (N : Nat) (l0 : Nat) (l2 : Int32) (l3 : Int32) (l4 : Int32) (l5 : Int32) (l6 : Int32) (l7 : Int32) (l8 : Int32) (l10 : Int32) (l11 : Int32) (l12 : Int32) (s0 : Nat) (s1 : Int32) (h : eH) : Option (Int32 × eH) :=
  (p_V 36 h s0 16 (.int s1)).bind fun h1 =>
  fX37_breakUp_b287 N N l0 l2 l3 l4 l5 l6 l7 l8 l10 l11 l12 h1
theorem pX37_breakUp_b284 {w : eW} {d : Nat} (hd : 5 ≤ d + 1) {N : Nat} {l0 : Nat} {l2 : Int32} {l3 : Int32} {l4 : Int32} {l5 : Int32} {l6 : Int32} {l7 : Int32} {l8 : Int32} {l10 : Int32} {l11 : Int32} {l12 : Int32} {s0 : Nat} {s1 : Int32} {h : eH} {q} (hf : fX37_breakUp_b284 N l0 l2 l3 l4 l5 l6 l7 l8 l10 l11 l12 s0 s1 h = some q) : wp w (d + 1) YX37_breakUp 284 [some (.ref l0), none, some (.int l2), some (.int l3), some (.int l4), some (.int l5), some (.int l6), some (.int l7), some (.int l8), none, some (.int l10), some (.int l11), some (.int l12), none] [.int s1, .ref s0] h (e_is (e_rn c_I q)) := by
  unfold fX37_breakUp_b284 at hf
  obtain ⟨h1, b2, hf⟩ := Option.bind_eq_some_iff.mp hf
  refine SX37_122 b2 dX37_breakUp_284 rfl ?_
  exact (pX37_breakUp_b287 hd N _ _ _ _ _ _ _ _ _ _ _ _ _ hf).to ⟨rfl, rfl, rfl, rfl, rfl, rfl, rfl, rfl, rfl, rfl, rfl, trivial⟩
def fX37_breakUp_b267 (N : Nat) (l0 : Nat) (l2 : Int32) (l3 : Int32) (l4 : Int32) (l5 : Int32) (l6 : Int32) (l7 : Int32) (l8 : Int32) (l10 : Int32) (l11 : Int32) (s0 : Int32) (h : eH) : Option (Int32 × eH) :=
  (g_A 36 h l0 10).bind fun a1 =>
  (r_I 100 h a1 (0 : Int32)).bind fun x3 =>
  if 0 ≤ x3 then
    fX37_breakUp_b284 N l0 l2 l3 l4 l5 l6 l7 l8 l10 l11 s0 l0 (1 : Int32) h
  else
    fX37_breakUp_b284 N l0 l2 l3 l4 l5 l6 l7 l8 l10 l11 s0 l0 (2 : Int32) h
theorem pX37_breakUp_b267 {w : eW} {d : Nat} (hd : 5 ≤ d + 1) {N : Nat} {l0 : Nat} {l2 : Int32} {l3 : Int32} {l4 : Int32} {l5 : Int32} {l6 : Int32} {l7 : Int32} {l8 : Int32} {l10 : Int32} {l11 : Int32} {s0 : Int32} {h : eH} {q} (hf : fX37_breakUp_b267 N l0 l2 l3 l4 l5 l6 l7 l8 l10 l11 s0 h = some q) : wp w (d + 1) YX37_breakUp 267 [some (.ref l0), none, some (.int l2), some (.int l3), some (.int l4), some (.int l5), some (.int l6), some (.int l7), some (.int l8), none, some (.int l10), some (.int l11), none, none] [.int s0] h (e_is (e_rn c_I q)) := by
  unfold fX37_breakUp_b267 at hf
  refine w_istore dX37_breakUp_267 (by decide) (ls' := [some (.ref l0), none, some (.int l2), some (.int l3), some (.int l4), some (.int l5), some (.int l6), some (.int l7), some (.int l8), none, some (.int l10), some (.int l11), some (.int s0), none]) rfl ?_
  refine w_aload_n dX37_breakUp_269 rfl rfl ?_
  refine w_aload_n dX37_breakUp_270 rfl rfl ?_
  obtain ⟨a1, b2, hf⟩ := Option.bind_eq_some_iff.mp hf
  refine GX37_34 b2 dX37_breakUp_271 rfl ?_
  refine w_iconst dX37_breakUp_274 (v := 0) (by decide) ?_
  obtain ⟨x3, b4, hf⟩ := Option.bind_eq_some_iff.mp hf
  refine x_rI b4 dX37_breakUp_275 ?_
  refine w_if_ge 283 dX37_breakUp_276 (by decide) (fun c5 => ?_) (fun c5 => ?_)
  · replace hf := (if_pos (show 0 ≤ x3 from c5)).symm.trans hf
    refine w_iconst dX37_breakUp_283 (v := 1) (by decide) ?_
    exact (pX37_breakUp_b284 hd hf).to ⟨rfl, rfl, rfl, rfl, rfl, rfl, rfl, rfl, rfl, rfl, rfl, trivial⟩
  · replace hf := (if_neg (show ¬ (0 ≤ x3) from c5)).symm.trans hf
    refine w_iconst dX37_breakUp_279 (v := 2) (by decide) ?_
    refine w_goto 284 dX37_breakUp_280 (by decide) ?_
    exact (pX37_breakUp_b284 hd hf).to ⟨rfl, rfl, rfl, rfl, rfl, rfl, rfl, rfl, rfl, rfl, rfl, trivial⟩
def fX37_breakUp_b126 (N : Nat) (l0 : Nat) (l2 : Int32) (s0 : Int32) (h : eH) : Option (Int32 × eH) :=
  (g_A 36 h l0 2).bind fun a1 =>
  (r_I 100 h a1 s0).bind fun x3 =>
  (g_A 36 h l0 3).bind fun a5 =>
  (r_I 100 h a5 s0).bind fun x7 =>
  (g_A 36 h l0 4).bind fun a9 =>
  (r_I 100 h a9 s0).bind fun x11 =>
  (g_A 36 h l0 5).bind fun a13 =>
  (r_I 100 h a13 s0).bind fun x15 =>
  (g_A 36 h l0 6).bind fun a17 =>
  (r_I 100 h a17 s0).bind fun x19 =>
  (p_V 36 h l0 1 (.int s0)).bind fun h21 =>
  (k_ok 36 h21 l0).bind fun _ =>
  (fX37_append l0 (4 : Int32) (10000 : Int32) (0 : Int32) (0 : Int32) (0 : Int32) (0 : Int32) (0 : Int32) h21).bind fun q24 =>
  (g_A 36 q24.2 l0 12).bind fun a25 =>
  (r_I 100 q24.2 a25 (2 : Int32)).bind fun x27 =>
  (g_A 36 q24.2 l0 13).bind fun a29 =>
  (r_I 100 q24.2 a29 (2 : Int32)).bind fun x31 =>
  (g_A 36 q24.2 l0 14).bind fun a33 =>
  (r_I 100 q24.2 a33 (2 : Int32)).bind fun x35 =>
  (g_A 36 q24.2 l0 15).bind fun a37 =>
  (r_I 100 q24.2 a37 (2 : Int32)).bind fun x39 =>
  (k_ok 36 q24.2 l0).bind fun _ =>
  (fX37_append l0 (1 : Int32) x27 x31 x35 x39 (0 : Int32) (0 : Int32) q24.2).bind fun q42 =>
  (k_ok 36 q42.2 l0).bind fun _ =>
  (fX37_append l0 (4 : Int32) (-10000 : Int32) (0 : Int32) (0 : Int32) (0 : Int32) (0 : Int32) (0 : Int32) q42.2).bind fun q44 =>
  (p_V 36 q44.2 l0 17 (.int q44.1)).bind fun h45 =>
  (k_ok 36 h45 l0).bind fun _ =>
  (fX37_sumUp N l0 h45).bind fun q48 =>
  (p_V 36 q48.2 l0 36 (.int (0 : Int32))).bind fun h49 =>
  (g_A 36 h49 l0 10).bind fun a51 =>
  (r_I 100 h49 a51 (8 : Int32)).bind fun x53 =>
  if x53 ≤ 0 then
    fX37_breakUp_b267 N l0 l2 s0 x3 x7 x11 x15 x19 (0 : Int32) (0 : Int32) (2 : Int32) h49
  else
    fX37_breakUp_b267 N l0 l2 s0 x3 x7 x11 x15 x19 (0 : Int32) (0 : Int32) (3 : Int32) h49
theorem pX37_breakUp_b126 {w : eW} {d : Nat} (hd : 5 ≤ d + 1) {N : Nat} {l0 : Nat} {l2 : Int32} {s0 : Int32} {h : eH} {q} (hf : fX37_breakUp_b126 N l0 l2 s0 h = some q) : wp w (d + 1) YX37_breakUp 126 [some (.ref l0), none, some (.int l2), none, none, none, none, none, none, none, none, none, none, none] [.int s0] h (e_is (e_rn c_I q)) := by
  unfold fX37_breakUp_b126 at hf
  refine w_istore_n dX37_breakUp_126 rfl (by decide) (ls' := [some (.ref l0), none, some (.int l2), some (.int s0), none, none, none, none, none, none, none, none, none, none]) rfl ?_
  refine w_aload_n dX37_breakUp_127 rfl rfl ?_
  obtain ⟨a1, b2, hf⟩ := Option.bind_eq_some_iff.mp hf
  refine GX37_7 b2 dX37_breakUp_128 rfl ?_
  refine w_iload_n dX37_breakUp_131 rfl rfl ?_
  obtain ⟨x3, b4, hf⟩ := Option.bind_eq_some_iff.mp hf
  refine x_rI b4 dX37_breakUp_132 ?_
  refine w_istore dX37_breakUp_133 (by decide) (ls' := [some (.ref l0), none, some (.int l2), some (.int s0), some (.int x3), none, none, none, none, none, none, none, none, none]) rfl ?_
  refine w_aload_n dX37_breakUp_135 rfl rfl ?_
  obtain ⟨a5, b6, hf⟩ := Option.bind_eq_some_iff.mp hf
  refine GX37_13 b6 dX37_breakUp_136 rfl ?_
  refine w_iload_n dX37_breakUp_139 rfl rfl ?_
  obtain ⟨x7, b8, hf⟩ := Option.bind_eq_some_iff.mp hf
  refine x_rI b8 dX37_breakUp_140 ?_
  refine w_istore dX37_breakUp_141 (by decide) (ls' := [some (.ref l0), none, some (.int l2), some (.int s0), some (.int x3), some (.int x7), none, none, none, none, none, none, none, none]) rfl ?_
  refine w_aload_n dX37_breakUp_143 rfl rfl ?_
  obtain ⟨a9, b10, hf⟩ := Option.bind_eq_some_iff.mp hf
  refine GX37_16 b10 dX37_breakUp_144 rfl ?_
  refine w_iload_n dX37_breakUp_147 rfl rfl ?_
  obtain ⟨x11, b12, hf⟩ := Option.bind_eq_some_iff.mp hf
  refine x_rI b12 dX37_breakUp_148 ?_
  refine w_istore dX37_breakUp_149 (by decide) (ls' := [some (.ref l0), none, some (.int l2), some (.int s0), some (.int x3), some (.int x7), some (.int x11), none, none, none, none, none, none, none]) rfl ?_
  refine w_aload_n dX37_breakUp_151 rfl rfl ?_
  obtain ⟨a13, b14, hf⟩ := Option.bind_eq_some_iff.mp hf
  refine GX37_19 b14 dX37_breakUp_152 rfl ?_
  refine w_iload_n dX37_breakUp_155 rfl rfl ?_
  obtain ⟨x15, b16, hf⟩ := Option.bind_eq_some_iff.mp hf
  refine x_rI b16 dX37_breakUp_156 ?_
  refine w_istore dX37_breakUp_157 (by decide) (ls' := [some (.ref l0), none, some (.int l2), some (.int s0), some (.int x3), some (.int x7), some (.int x11), some (.int x15), none, none, none, none, none, none]) rfl ?_
  refine w_aload_n dX37_breakUp_159 rfl rfl ?_
  obtain ⟨a17, b18, hf⟩ := Option.bind_eq_some_iff.mp hf
  refine GX37_22 b18 dX37_breakUp_160 rfl ?_
  refine w_iload_n dX37_breakUp_163 rfl rfl ?_
  obtain ⟨x19, b20, hf⟩ := Option.bind_eq_some_iff.mp hf
  refine x_rI b20 dX37_breakUp_164 ?_
  refine w_istore dX37_breakUp_165 (by decide) (ls' := [some (.ref l0), none, some (.int l2), some (.int s0), some (.int x3), some (.int x7), some (.int x11), some (.int x15), some (.int x19), none, none, none, none, none]) rfl ?_
  refine w_aload_n dX37_breakUp_167 rfl rfl ?_
  refine w_iload_n dX37_breakUp_168 rfl rfl ?_
  obtain ⟨h21, b22, hf⟩ := Option.bind_eq_some_iff.mp hf
  refine SX37_104 b22 dX37_breakUp_169 rfl ?_
  refine w_aload_n dX37_breakUp_172 rfl rfl ?_
  refine w_iconst dX37_breakUp_173 (v := 4) (by decide) ?_
  refine w_sipush dX37_breakUp_174 (v := 10000) (by decide) ?_
  refine w_iconst dX37_breakUp_177 (v := 0) (by decide) ?_
  refine w_iconst dX37_breakUp_178 (v := 0) (by decide) ?_
  refine w_iconst dX37_breakUp_179 (v := 0) (by decide) ?_
  refine w_iconst dX37_breakUp_180 (v := 0) (by decide) ?_
  refine w_iconst dX37_breakUp_181 (v := 0) (by decide) ?_
  obtain ⟨_, b23, hf⟩ := Option.bind_eq_some_iff.mp hf
  refine x_cnI hf (e_stV (Yc := YX37_append) (ci := 36) (av := [.int (4 : Int32), .int (10000 : Int32), .int (0 : Int32), .int (0 : Int32), .int (0 : Int32), .int (0 : Int32), .int (0 : Int32)]) (st := []) dX37_breakUp_182 q5781 mX37_append rfl (k_ok_some b23).1 (k_ok_some b23).2) mX37_append.2.2.1 mX37_append.2.2.2.2.1 (Nat.le_of_ble_eq_true rfl) (Nat.le_of_ble_eq_true rfl) (fun q hq => pX37_append (by omega) hq) (fun q24 hf => ?_)
  refine w_istore dX37_breakUp_185 (by decide) (ls' := [some (.ref l0), none, some (.int l2), some (.int s0), some (.int x3), some (.int x7), some (.int x11), some (.int x15), some (.int x19), some (.int q24.1), none, none, none, none]) rfl ?_
  refine w_aload_n dX37_breakUp_187 rfl rfl ?_
  refine w_iconst dX37_breakUp_188 (v := 1) (by decide) ?_
  refine w_aload_n dX37_breakUp_189 rfl rfl ?_
  obtain ⟨a25, b26, hf⟩ := Option.bind_eq_some_iff.mp hf
  refine GX37_37 b26 dX37_breakUp_190 rfl ?_
  refine w_iconst dX37_breakUp_193 (v := 2) (by decide) ?_
  obtain ⟨x27, b28, hf⟩ := Option.bind_eq_some_iff.mp hf
  refine x_rI b28 dX37_breakUp_194 ?_
  refine w_aload_n dX37_breakUp_195 rfl rfl ?_
  obtain ⟨a29, b30, hf⟩ := Option.bind_eq_some_iff.mp hf
  refine GX37_40 b30 dX37_breakUp_196 rfl ?_
  refine w_iconst dX37_breakUp_199 (v := 2) (by decide) ?_
  obtain ⟨x31, b32, hf⟩ := Option.bind_eq_some_iff.mp hf
  refine x_rI b32 dX37_breakUp_200 ?_
  refine w_aload_n dX37_breakUp_201 rfl rfl ?_
  obtain ⟨a33, b34, hf⟩ := Option.bind_eq_some_iff.mp hf
  refine GX37_43 b34 dX37_breakUp_202 rfl ?_
  refine w_iconst dX37_breakUp_205 (v := 2) (by decide) ?_
  obtain ⟨x35, b36, hf⟩ := Option.bind_eq_some_iff.mp hf
  refine x_rI b36 dX37_breakUp_206 ?_
  refine w_aload_n dX37_breakUp_207 rfl rfl ?_
  obtain ⟨a37, b38, hf⟩ := Option.bind_eq_some_iff.mp hf
  refine GX37_46 b38 dX37_breakUp_208 rfl ?_
  refine w_iconst dX37_breakUp_211 (v := 2) (by decide) ?_
  obtain ⟨x39, b40, hf⟩ := Option.bind_eq_some_iff.mp hf
  refine x_rI b40 dX37_breakUp_212 ?_
  refine w_iconst dX37_breakUp_213 (v := 0) (by decide) ?_
  refine w_iconst dX37_breakUp_214 (v := 0) (by decide) ?_
  obtain ⟨_, b41, hf⟩ := Option.bind_eq_some_iff.mp hf
  refine x_cnI hf (e_stV (Yc := YX37_append) (ci := 36) (av := [.int (1 : Int32), .int x27, .int x31, .int x35, .int x39, .int (0 : Int32), .int (0 : Int32)]) (st := []) dX37_breakUp_215 q5781 mX37_append rfl (k_ok_some b41).1 (k_ok_some b41).2) mX37_append.2.2.1 mX37_append.2.2.2.2.1 (Nat.le_of_ble_eq_true rfl) (Nat.le_of_ble_eq_true rfl) (fun q hq => pX37_append (by omega) hq) (fun q42 hf => ?_)
  refine w_istore dX37_breakUp_218 (by decide) (ls' := [some (.ref l0), none, some (.int l2), some (.int s0), some (.int x3), some (.int x7), some (.int x11), some (.int x15), some (.int x19), some (.int q42.1), none, none, none, none]) rfl ?_
  refine w_aload_n dX37_breakUp_220 rfl rfl ?_
  refine w_aload_n dX37_breakUp_221 rfl rfl ?_
  refine w_iconst dX37_breakUp_222 (v := 4) (by decide) ?_
  refine w_sipush dX37_breakUp_223 (v := -10000) (by decide) ?_
  refine w_iconst dX37_breakUp_226 (v := 0) (by decide) ?_
  refine w_iconst dX37_breakUp_227 (v := 0) (by decide) ?_
  refine w_iconst dX37_breakUp_228 (v := 0) (by decide) ?_
  refine w_iconst dX37_breakUp_229 (v := 0) (by decide) ?_
  refine w_iconst dX37_breakUp_230 (v := 0) (by decide) ?_
  obtain ⟨_, b43, hf⟩ := Option.bind_eq_some_iff.mp hf
  refine x_cnI hf (e_stV (Yc := YX37_append) (ci := 36) (av := [.int (4 : Int32), .int (-10000 : Int32), .int (0 : Int32), .int (0 : Int32), .int (0 : Int32), .int (0 : Int32), .int (0 : Int32)]) (st := [.ref l0]) dX37_breakUp_231 q5781 mX37_append rfl (k_ok_some b43).1 (k_ok_some b43).2) mX37_append.2.2.1 mX37_append.2.2.2.2.1 (Nat.le_of_ble_eq_true rfl) (Nat.le_of_ble_eq_true rfl) (fun q hq => pX37_append (by omega) hq) (fun q44 hf => ?_)
  obtain ⟨h45, b46, hf⟩ := Option.bind_eq_some_iff.mp hf
  refine SX37_119 b46 dX37_breakUp_234 rfl ?_
  refine w_aload_n dX37_breakUp_237 rfl rfl ?_
  obtain ⟨_, b47, hf⟩ := Option.bind_eq_some_iff.mp hf
  refine x_cnV hf (e_stV (Yc := YX37_sumUp) (ci := 36) (av := []) (st := []) dX37_breakUp_238 q5782 mX37_sumUp rfl (k_ok_some b47).1 (k_ok_some b47).2) mX37_sumUp.2.2.1 mX37_sumUp.2.2.2.2.1 (Nat.le_of_ble_eq_true rfl) (Nat.le_of_ble_eq_true rfl) (fun q hq => pX37_sumUp (by omega) hq) (fun q48 hf => ?_)
  refine w_iconst dX37_breakUp_241 (v := 0) (by decide) ?_
  refine w_istore dX37_breakUp_242 (by decide) (ls' := [some (.ref l0), none, some (.int l2), some (.int s0), some (.int x3), some (.int x7), some (.int x11), some (.int x15), some (.int x19), some (.int q42.1), some (.int (0 : Int32)), none, none, none]) rfl ?_
  refine w_iconst dX37_breakUp_244 (v := 0) (by decide) ?_
  refine w_istore dX37_breakUp_245 (by decide) (ls' := [some (.ref l0), none, some (.int l2), some (.int s0), some (.int x3), some (.int x7), some (.int x11), some (.int x15), some (.int x19), some (.int q42.1), some (.int (0 : Int32)), some (.int (0 : Int32)), none, none]) rfl ?_
  refine w_aload_n dX37_breakUp_247 rfl rfl ?_
  refine w_iconst dX37_breakUp_248 (v := 0) (by decide) ?_
  obtain ⟨h49, b50, hf⟩ := Option.bind_eq_some_iff.mp hf
  refine SX37_108 b50 dX37_breakUp_249 rfl ?_
  refine w_aload_n dX37_breakUp_252 rfl rfl ?_
  obtain ⟨a51, b52, hf⟩ := Option.bind_eq_some_iff.mp hf
  refine GX37_34 b52 dX37_breakUp_253 rfl ?_
  refine w_bipush dX37_breakUp_256 (v := 8) (by decide) ?_
  obtain ⟨x53, b54, hf⟩ := Option.bind_eq_some_iff.mp hf
  refine x_rI b54 dX37_breakUp_258 ?_
  refine w_if_le 266 dX37_breakUp_259 (by decide) (fun c55 => ?_) (fun c55 => ?_)
  · replace hf := (if_pos (show x53 ≤ 0 from c55)).symm.trans hf
    refine w_iconst dX37_breakUp_266 (v := 2) (by decide) ?_
    exact (pX37_breakUp_b267 hd hf).to ⟨rfl, rfl, rfl, rfl, rfl, rfl, rfl, rfl, rfl, rfl, trivial⟩
  · replace hf := (if_neg (show ¬ (x53 ≤ 0) from c55)).symm.trans hf
    refine w_iconst dX37_breakUp_262 (v := 3) (by decide) ?_
    refine w_goto 267 dX37_breakUp_263 (by decide) ?_
    exact (pX37_breakUp_b267 hd hf).to ⟨rfl, rfl, rfl, rfl, rfl, rfl, rfl, rfl, rfl, rfl, trivial⟩
def fX37_breakUp_b122 (N : Nat) (l0 : Nat) (l2 : Int32) (h : eH) : Option (Int32 × eH) :=
  (g_I 36 h l0 1).bind fun x1 =>
  fX37_breakUp_b126 N l0 l2 x1 h
theorem pX37_breakUp_b122 {w : eW} {d : Nat} (hd : 5 ≤ d + 1) {N : Nat} {l0 : Nat} {l2 : Int32} {h : eH} {q} (hf : fX37_breakUp_b122 N l0 l2 h = some q) : wp w (d + 1) YX37_breakUp 122 [some (.ref l0), none, some (.int l2), none, none, none, none, none, none, none, none, none, none, none] [] h (e_is (e_rn c_I q)) := by
  unfold fX37_breakUp_b122 at hf
  refine w_aload_n dX37_breakUp_122 rfl rfl ?_
  obtain ⟨x1, b2, hf⟩ := Option.bind_eq_some_iff.mp hf
  refine GX37_104 b2 dX37_breakUp_123 rfl ?_
  exact (pX37_breakUp_b126 hd hf).to ⟨rfl, rfl, trivial⟩
def fX37_breakUp_b74 (N : Nat) (l0 : Nat) (s0 : Nat) (s1 : Int32) (h : eH) : Option (Int32 × eH) :=
  (p_V 36 h s0 0 (.int s1)).bind fun h1 =>
  (g_I 36 h1 l0 0).bind fun x3 =>
  if x3 ≤ 0 then
    (g_I 36 h1 l0 1).bind fun x6 =>
    (g_I 36 h1 l0 1).bind fun x8 =>
    if x8 ≤ 0 then
      fX37_breakUp_b122 N l0 x6 h1
    else
      (g_A 36 h1 l0 2).bind fun a11 =>
      (g_I 36 h1 l0 1).bind fun x13 =>
      (r_I 100 h1 a11 (x13 - (1 : Int32))).bind fun x15 =>
      if ¬ x15 = (1 : Int32) then
        fX37_breakUp_b122 N l0 x6 h1
      else
        (g_I 36 h1 l0 1).bind fun x18 =>
        fX37_breakUp_b126 N l0 x6 (x18 - (1 : Int32)) h1
  else
    some ((0 : Int32), h1)
theorem pX37_breakUp_b74 {w : eW} {d : Nat} (hd : 5 ≤ d + 1) {N : Nat} {l0 : Nat} {s0 : Nat} {s1 : Int32} {h : eH} {q} (hf : fX37_breakUp_b74 N l0 s0 s1 h = some q) : wp w (d + 1) YX37_breakUp 74 [some (.ref l0), none, none, none, none, none, none, none, none, none, none, none, none, none] [.int s1, .ref s0] h (e_is (e_rn c_I q)) := by
  unfold fX37_breakUp_b74 at hf
  obtain ⟨h1, b2, hf⟩ := Option.bind_eq_some_iff.mp hf
  refine SX37_250 b2 dX37_breakUp_74 rfl ?_
  refine w_aload_n dX37_breakUp_77 rfl rfl ?_
  obtain ⟨x3, b4, hf⟩ := Option.bind_eq_some_iff.mp hf
  refine GX37_250 b4 dX37_breakUp_78 rfl ?_
  refine w_if_le 86 dX37_breakUp_81 (by decide) (fun c5 => ?_) (fun c5 => ?_)
  · replace hf := (if_pos (show x3 ≤ 0 from c5)).symm.trans hf
    refine w_aload_n dX37_breakUp_86 rfl rfl ?_
    obtain ⟨x6, b7, hf⟩ := Option.bind_eq_some_iff.mp hf
    refine GX37_104 b7 dX37_breakUp_87 rfl ?_
    refine w_istore_n dX37_breakUp_90 rfl (by decide) (ls' := [some (.ref l0), none, some (.int x6), none, none, none, none, none, none, none, none, none, none, none]) rfl ?_
    refine w_aload_n dX37_breakUp_91 rfl rfl ?_
    obtain ⟨x8, b9, hf⟩ := Option.bind_eq_some_iff.mp hf
    refine GX37_104 b9 dX37_breakUp_92 rfl ?_
    refine w_if_le 122 dX37_breakUp_95 (by decide) (fun c10 => ?_) (fun c10 => ?_)
    · replace hf := (if_pos (show x8 ≤ 0 from c10)).symm.trans hf
      exact (pX37_breakUp_b122 hd hf).to ⟨rfl, rfl, trivial⟩
    · replace hf := (if_neg (show ¬ (x8 ≤ 0) from c10)).symm.trans hf
      refine w_aload_n dX37_breakUp_98 rfl rfl ?_
      obtain ⟨a11, b12, hf⟩ := Option.bind_eq_some_iff.mp hf
      refine GX37_7 b12 dX37_breakUp_99 rfl ?_
      refine w_aload_n dX37_breakUp_102 rfl rfl ?_
      obtain ⟨x13, b14, hf⟩ := Option.bind_eq_some_iff.mp hf
      refine GX37_104 b14 dX37_breakUp_103 rfl ?_
      refine w_iconst dX37_breakUp_106 (v := 1) (by decide) ?_
      refine w_isub dX37_breakUp_107 ?_
      obtain ⟨x15, b16, hf⟩ := Option.bind_eq_some_iff.mp hf
      refine x_rI b16 dX37_breakUp_108 ?_
      refine w_iconst dX37_breakUp_109 (v := 1) (by decide) ?_
      refine w_icmp_ne 122 dX37_breakUp_110 (by decide) (fun c17 => ?_) (fun c17 => ?_)
      · replace hf := (if_pos (show ¬ x15 = (1 : Int32) from c17)).symm.trans hf
        exact (pX37_breakUp_b122 hd hf).to ⟨rfl, rfl, trivial⟩
      · replace hf := (if_neg (show ¬ (¬ x15 = (1 : Int32)) from (fun z => z c17))).symm.trans hf
        refine w_aload_n dX37_breakUp_113 rfl rfl ?_
        obtain ⟨x18, b19, hf⟩ := Option.bind_eq_some_iff.mp hf
        refine GX37_104 b19 dX37_breakUp_114 rfl ?_
        refine w_iconst dX37_breakUp_117 (v := 1) (by decide) ?_
        refine w_isub dX37_breakUp_118 ?_
        refine w_goto 126 dX37_breakUp_119 (by decide) ?_
        exact (pX37_breakUp_b126 hd hf).to ⟨rfl, rfl, trivial⟩
  · replace hf := (if_neg (show ¬ (x3 ≤ 0) from c5)).symm.trans hf
    refine w_iconst dX37_breakUp_84 (v := 0) (by decide) ?_
    cases hf
    exact w_iret dX37_breakUp_85 rfl rfl rfl
def fX37_breakUp_b4 (N : Nat) : Nat → Nat → Int32 → Int32 → eH → Option (Int32 × eH)
  | 0, _, _, _, _ => none
  | n + 1, l0, l1, l2, h =>
    (g_I 36 h l0 1).bind fun x1 =>
    if x1 ≤ l2 then
      if l1 = 0 then
        (k_ok 36 h l0).bind fun _ =>
        (fX37_fitsInSizes N l0 h).bind fun q6 =>
        if q6.1 = 0 then
          fX37_breakUp_b74 N l0 l0 (2 : Int32) q6.2
        else
          fX37_breakUp_b74 N l0 l0 (0 : Int32) q6.2
      else
        fX37_breakUp_b74 N l0 l0 (1 : Int32) h
    else
      if ¬ l1 = 0 then
        fX37_breakUp_b41 N (fX37_breakUp_b4 N n) l0 l2 h
      else
        (g_A 36 h l0 2).bind fun a9 =>
        (r_I 100 h a9 l2).bind fun x11 =>
        if ¬ x11 = (5 : Int32) then
          fX37_breakUp_b45 N (fX37_breakUp_b4 N n) l0 l2 h
        else
          (g_A 36 h l0 9).bind fun a14 =>
          (r_I 100 h a14 l2).bind fun x16 =>
          (g_I 36 h l0 1).bind fun x18 =>
          if (l2 + x16) < x18 then
            fX37_breakUp_b45 N (fX37_breakUp_b4 N n) l0 l2 h
          else
            fX37_breakUp_b41 N (fX37_breakUp_b4 N n) l0 l2 h
theorem pX37_breakUp_b4 {w : eW} {d : Nat} (hd : 5 ≤ d + 1) {N : Nat} : ∀ (n : Nat) l0 l1 l2 h q, fX37_breakUp_b4 N n l0 l1 l2 h = some q → wp w (d + 1) YX37_breakUp 4 [some (.ref l0), some (.int l1), some (.int l2), none, none, none, none, none, none, none, none, none, none, none] [] h (e_is (e_rn c_I q)) := by
  intro n
  induction n with
  | zero => intro l0 l1 l2 h q hf; simp [fX37_breakUp_b4] at hf
  | succ n ih =>
    intro l0 l1 l2 h q hf
    rw [fX37_breakUp_b4] at hf
    refine w_iload_n dX37_breakUp_4 rfl rfl ?_
    refine w_aload_n dX37_breakUp_5 rfl rfl ?_
    obtain ⟨x1, b2, hf⟩ := Option.bind_eq_some_iff.mp hf
    refine GX37_104 b2 dX37_breakUp_6 rfl ?_
    refine w_icmp_ge 53 dX37_breakUp_9 (by decide) (fun c3 => ?_) (fun c3 => ?_)
    · replace hf := (if_pos (show x1 ≤ l2 from c3)).symm.trans hf
      refine w_aload_n dX37_breakUp_53 rfl rfl ?_
      refine w_iload_n dX37_breakUp_54 rfl rfl ?_
      refine w_if_eq 62 dX37_breakUp_55 (by decide) (fun c4 => ?_) (fun c4 => ?_)
      · replace hf := (if_pos (show l1 = 0 from c4)).symm.trans hf
        refine w_aload_n dX37_breakUp_62 rfl rfl ?_
        obtain ⟨_, b5, hf⟩ := Option.bind_eq_some_iff.mp hf
        refine x_cnI hf (e_stV (Yc := YX37_fitsInSizes) (ci := 36) (av := []) (st := [.ref l0]) dX37_breakUp_63 q5768 mX37_fitsInSizes rfl (k_ok_some b5).1 (k_ok_some b5).2) mX37_fitsInSizes.2.2.1 mX37_fitsInSizes.2.2.2.2.1 (Nat.le_of_ble_eq_true rfl) (Nat.le_of_ble_eq_true rfl) (fun q hq => pX37_fitsInSizes (by omega) hq) (fun q6 hf => ?_)
        refine w_if_eq 73 dX37_breakUp_66 (by decide) (fun c7 => ?_) (fun c7 => ?_)
        · replace hf := (if_pos (show q6.1 = 0 from c7)).symm.trans hf
          refine w_iconst dX37_breakUp_73 (v := 2) (by decide) ?_
          exact (pX37_breakUp_b74 hd hf).to ⟨rfl, trivial⟩
        · replace hf := (if_neg (show ¬ (q6.1 = 0) from c7)).symm.trans hf
          refine w_iconst dX37_breakUp_69 (v := 0) (by decide) ?_
          refine w_goto 74 dX37_breakUp_70 (by decide) ?_
          exact (pX37_breakUp_b74 hd hf).to ⟨rfl, trivial⟩
      · replace hf := (if_neg (show ¬ (l1 = 0) from c4)).symm.trans hf
        refine w_iconst dX37_breakUp_58 (v := 1) (by decide) ?_
        refine w_goto 74 dX37_breakUp_59 (by decide) ?_
        exact (pX37_breakUp_b74 hd hf).to ⟨rfl, trivial⟩
    · replace hf := (if_neg (show ¬ (x1 ≤ l2) from c3)).symm.trans hf
      refine w_iload_n dX37_breakUp_12 rfl rfl ?_
      refine w_if_ne 41 dX37_breakUp_13 (by decide) (fun c8 => ?_) (fun c8 => ?_)
      · replace hf := (if_pos (show ¬ l1 = 0 from c8)).symm.trans hf
        exact (pX37_breakUp_b41 hd ih hf).to ⟨rfl, rfl, trivial⟩
      · replace hf := (if_neg (show ¬ (¬ l1 = 0) from (fun z => z c8))).symm.trans hf
        refine w_aload_n dX37_breakUp_16 rfl rfl ?_
        obtain ⟨a9, b10, hf⟩ := Option.bind_eq_some_iff.mp hf
        refine GX37_7 b10 dX37_breakUp_17 rfl ?_
        refine w_iload_n dX37_breakUp_20 rfl rfl ?_
        obtain ⟨x11, b12, hf⟩ := Option.bind_eq_some_iff.mp hf
        refine x_rI b12 dX37_breakUp_21 ?_
        refine w_iconst dX37_breakUp_22 (v := 5) (by decide) ?_
        refine w_icmp_ne 45 dX37_breakUp_23 (by decide) (fun c13 => ?_) (fun c13 => ?_)
        · replace hf := (if_pos (show ¬ x11 = (5 : Int32) from c13)).symm.trans hf
          exact (pX37_breakUp_b45 hd ih hf).to ⟨rfl, rfl, trivial⟩
        · replace hf := (if_neg (show ¬ (¬ x11 = (5 : Int32)) from (fun z => z c13))).symm.trans hf
          refine w_iload_n dX37_breakUp_26 rfl rfl ?_
          refine w_aload_n dX37_breakUp_27 rfl rfl ?_
          obtain ⟨a14, b15, hf⟩ := Option.bind_eq_some_iff.mp hf
          refine GX37_31 b15 dX37_breakUp_28 rfl ?_
          refine w_iload_n dX37_breakUp_31 rfl rfl ?_
          obtain ⟨x16, b17, hf⟩ := Option.bind_eq_some_iff.mp hf
          refine x_rI b17 dX37_breakUp_32 ?_
          refine w_iadd dX37_breakUp_33 ?_
          refine w_aload_n dX37_breakUp_34 rfl rfl ?_
          obtain ⟨x18, b19, hf⟩ := Option.bind_eq_some_iff.mp hf
          refine GX37_104 b19 dX37_breakUp_35 rfl ?_
          refine w_icmp_lt 45 dX37_breakUp_38 (by decide) (fun c20 => ?_) (fun c20 => ?_)
          · replace hf := (if_pos (show (l2 + x16) < x18 from c20)).symm.trans hf
            exact (pX37_breakUp_b45 hd ih hf).to ⟨rfl, rfl, trivial⟩
          · replace hf := (if_neg (show ¬ ((l2 + x16) < x18) from c20)).symm.trans hf
            exact (pX37_breakUp_b41 hd ih hf).to ⟨rfl, rfl, trivial⟩
def fX37_breakUp (N : Nat) (this : Nat) (h : eH) : Option (Int32 × eH) :=
  fX37_breakUp_b4 N N this (0 : Int32) (0 : Int32) h
theorem pX37_breakUp {w : eW} {d : Nat} (hd : 5 ≤ d) {N : Nat} {this : Nat} {h : eH} {q} (hf : fX37_breakUp N this h = some q) : wm w d YX37_breakUp [.ref this] h (e_is (e_rn c_I q)) := by
  obtain ⟨d, rfl⟩ : ∃ e, d = e + 1 := ⟨d - 1, by omega⟩
  show wp w (d + 1) YX37_breakUp 0 [some (.ref this), none, none, none, none, none, none, none, none, none, none, none, none, none] [] h _
  unfold fX37_breakUp at hf
  refine w_iconst dX37_breakUp_0 (v := 0) (by decide) ?_
  refine w_istore_n dX37_breakUp_1 rfl (by decide) (ls' := [some (.ref this), some (.int (0 : Int32)), none, none, none, none, none, none, none, none, none, none, none, none]) rfl ?_
  refine w_iconst dX37_breakUp_2 (v := 0) (by decide) ?_
  refine w_istore_n dX37_breakUp_3 rfl (by decide) (ls' := [some (.ref this), some (.int (0 : Int32)), some (.int (0 : Int32)), none, none, none, none, none, none, none, none, none, none, none]) rfl ?_
  exact (pX37_breakUp_b4 hd N _ _ _ _ _ hf).to ⟨rfl, rfl, rfl, trivial⟩
abbrev cX37_nodes : ByteArray := prog_38_method_28_code
def yX37_nodes : MethodName := ⟨RX37, "nodes", "()I"⟩
def YX37_nodes : eY := (yX37_nodes, cX37_nodes, 1, (Option.some FieldType.int), [])
theorem mX37_nodes : e_mv YX37_nodes RX37 0 := ⟨q5872, q5873, q5874, by decide, by decide +kernel, (e_sig (by decide +kernel))⟩
theorem dX37_nodes_0 : decode cX37_nodes 0 = .ok (.aload_n 0, 1) := dc_42 (by decide +kernel)
theorem dX37_nodes_1 : decode cX37_nodes 1 = .ok (.getfield 108, 3) := dc_180 (a := 0) (b := 108) (n := 108) (by decide +kernel)
theorem dX37_nodes_4 : decode cX37_nodes 4 = .ok (.ifCond .le 10, 3) := dc_158 (a := 0) (b := 10) (v := 10) (by decide +kernel)
theorem dX37_nodes_7 : decode cX37_nodes 7 = .ok (.aload_n 0, 1) := dc_42 (by decide +kernel)
theorem dX37_nodes_8 : decode cX37_nodes 8 = .ok (.getfield 232, 3) := dc_180 (a := 0) (b := 232) (n := 232) (by decide +kernel)
theorem dX37_nodes_11 : decode cX37_nodes 11 = .ok (.goto 4, 3) := dc_167 (a := 0) (b := 4) (v := 4) (by decide +kernel)
theorem dX37_nodes_14 : decode cX37_nodes 14 = .ok (.iconst 0, 1) := dc_3 (by decide +kernel)
theorem dX37_nodes_15 : decode cX37_nodes 15 = .ok (.ireturn, 1) := dc_172 (by decide +kernel)
theorem GX37_108 {w : eW} {d : Nat} {Y : eY} {pc : Nat} {ls : eL} {st : List Value} {h : eH} {Q : eO → eH → Prop} {a : Nat} {x : Int32} (hf : g_I 36 h a 36 = some x) (hd : decode Y.2.1 pc = .ok (.getfield 108, 3)) (hY : Y.1.cls = RX37) (kk : wp w d Y (pc + 3) ls (.int x :: st) h Q) : wp w d Y pc ls (.ref a :: st) h Q := x_gI (ci := 36) (k := 36) hf hd rfl (by decide) (by rw [hY]; exact q4271) kk
theorem GX37_232 {w : eW} {d : Nat} {Y : eY} {pc : Nat} {ls : eL} {st : List Value} {h : eH} {Q : eO → eH → Prop} {a : Nat} {x : Int32} (hf : g_I 36 h a 37 = some x) (hd : decode Y.2.1 pc = .ok (.getfield 232, 3)) (hY : Y.1.cls = RX37) (kk : wp w d Y (pc + 3) ls (.int x :: st) h Q) : wp w d Y pc ls (.ref a :: st) h Q := x_gI (ci := 36) (k := 37) hf hd rfl (by decide) (by rw [hY]; exact q4272) kk
def fX37_nodes_b15 (s0 : Int32) (h : eH) : Option (Int32 × eH) :=
  some (s0, h)
theorem pX37_nodes_b15 {w : eW} {d : Nat} (hd : 0 ≤ d) {s0 : Int32} {h : eH} {q} (hf : fX37_nodes_b15 s0 h = some q) : wp w d YX37_nodes 15 [none] [.int s0] h (e_is (e_rn c_I q)) := by
  unfold fX37_nodes_b15 at hf
  cases hf
  exact w_iret dX37_nodes_15 rfl rfl rfl
def fX37_nodes (this : Nat) (h : eH) : Option (Int32 × eH) :=
  (g_I 36 h this 36).bind fun x1 =>
  if x1 ≤ 0 then
    fX37_nodes_b15 (0 : Int32) h
  else
    (g_I 36 h this 37).bind fun x4 =>
    fX37_nodes_b15 x4 h
theorem pX37_nodes {w : eW} {d : Nat} (hd : 0 ≤ d) {this : Nat} {h : eH} {q} (hf : fX37_nodes this h = some q) : wm w d YX37_nodes [.ref this] h (e_is (e_rn c_I q)) := by
  show wp w d YX37_nodes 0 [some (.ref this)] [] h _
  unfold fX37_nodes at hf
  refine w_aload_n dX37_nodes_0 rfl rfl ?_
  obtain ⟨x1, b2, hf⟩ := Option.bind_eq_some_iff.mp hf
  refine GX37_108 b2 dX37_nodes_1 rfl ?_
  refine w_if_le 14 dX37_nodes_4 (by decide) (fun c3 => ?_) (fun c3 => ?_)
  · replace hf := (if_pos (show x1 ≤ 0 from c3)).symm.trans hf
    refine w_iconst dX37_nodes_14 (v := 0) (by decide) ?_
    exact (pX37_nodes_b15 hd hf).to trivial
  · replace hf := (if_neg (show ¬ (x1 ≤ 0) from c3)).symm.trans hf
    refine w_aload_n dX37_nodes_7 rfl rfl ?_
    obtain ⟨x4, b5, hf⟩ := Option.bind_eq_some_iff.mp hf
    refine GX37_232 b5 dX37_nodes_8 rfl ?_
    refine w_goto 15 dX37_nodes_11 (by decide) ?_
    exact (pX37_nodes_b15 hd hf).to trivial
abbrev cX35_lineItem : ByteArray := prog_37_method_128_code
def yX35_lineItem : MethodName := ⟨RX35, "lineItem", "(IIIIII)V"⟩
def YX35_lineItem : eY := (yX35_lineItem, cX35_lineItem, 8, none, [])
theorem mX35_lineItem : e_mv YX35_lineItem RX35 6 := ⟨q5885, qs391, q5886, by decide, by decide +kernel, (e_sig (by decide +kernel))⟩
theorem dX35_lineItem_0 : decode cX35_lineItem 0 = .ok (.bipush 6, 2) := dc_16 (a := 6) (v := 6) (by decide +kernel)
theorem dX35_lineItem_2 : decode cX35_lineItem 2 = .ok (.aload_n 0, 1) := dc_42 (by decide +kernel)
theorem dX35_lineItem_3 : decode cX35_lineItem 3 = .ok (.getfield 936, 3) := dc_180 (a := 3) (b := 168) (n := 936) (by decide +kernel)
theorem dX35_lineItem_6 : decode cX35_lineItem 6 = .ok (.imul, 1) := dc_104 (by decide +kernel)
theorem dX35_lineItem_7 : decode cX35_lineItem 7 = .ok (.istore 7, 2) := dc_54 (a := 7) (by decide +kernel)
theorem dX35_lineItem_9 : decode cX35_lineItem 9 = .ok (.aload_n 0, 1) := dc_42 (by decide +kernel)
theorem dX35_lineItem_10 : decode cX35_lineItem 10 = .ok (.getfield 246, 3) := dc_180 (a := 0) (b := 246) (n := 246) (by decide +kernel)
theorem dX35_lineItem_13 : decode cX35_lineItem 13 = .ok (.iload 7, 2) := dc_21 (a := 7) (by decide +kernel)
theorem dX35_lineItem_15 : decode cX35_lineItem 15 = .ok (.iload_n 1, 1) := dc_27 (by decide +kernel)
theorem dX35_lineItem_16 : decode cX35_lineItem 16 = .ok (.iastore, 1) := dc_79 (by decide +kernel)
theorem dX35_lineItem_17 : decode cX35_lineItem 17 = .ok (.aload_n 0, 1) := dc_42 (by decide +kernel)
theorem dX35_lineItem_18 : decode cX35_lineItem 18 = .ok (.getfield 246, 3) := dc_180 (a := 0) (b := 246) (n := 246) (by decide +kernel)
theorem dX35_lineItem_21 : decode cX35_lineItem 21 = .ok (.iload 7, 2) := dc_21 (a := 7) (by decide +kernel)
theorem dX35_lineItem_23 : decode cX35_lineItem 23 = .ok (.iconst 1, 1) := dc_4 (by decide +kernel)
theorem dX35_lineItem_24 : decode cX35_lineItem 24 = .ok (.iadd, 1) := dc_96 (by decide +kernel)
theorem dX35_lineItem_25 : decode cX35_lineItem 25 = .ok (.iload_n 2, 1) := dc_28 (by decide +kernel)
theorem dX35_lineItem_26 : decode cX35_lineItem 26 = .ok (.iastore, 1) := dc_79 (by decide +kernel)
theorem dX35_lineItem_27 : decode cX35_lineItem 27 = .ok (.aload_n 0, 1) := dc_42 (by decide +kernel)
theorem dX35_lineItem_28 : decode cX35_lineItem 28 = .ok (.getfield 246, 3) := dc_180 (a := 0) (b := 246) (n := 246) (by decide +kernel)
theorem dX35_lineItem_31 : decode cX35_lineItem 31 = .ok (.iload 7, 2) := dc_21 (a := 7) (by decide +kernel)
theorem dX35_lineItem_33 : decode cX35_lineItem 33 = .ok (.iconst 2, 1) := dc_5 (by decide +kernel)
theorem dX35_lineItem_34 : decode cX35_lineItem 34 = .ok (.iadd, 1) := dc_96 (by decide +kernel)
theorem dX35_lineItem_35 : decode cX35_lineItem 35 = .ok (.iload_n 3, 1) := dc_29 (by decide +kernel)
theorem dX35_lineItem_36 : decode cX35_lineItem 36 = .ok (.iastore, 1) := dc_79 (by decide +kernel)
theorem dX35_lineItem_37 : decode cX35_lineItem 37 = .ok (.aload_n 0, 1) := dc_42 (by decide +kernel)
theorem dX35_lineItem_38 : decode cX35_lineItem 38 = .ok (.getfield 246, 3) := dc_180 (a := 0) (b := 246) (n := 246) (by decide +kernel)
theorem dX35_lineItem_41 : decode cX35_lineItem 41 = .ok (.iload 7, 2) := dc_21 (a := 7) (by decide +kernel)
theorem dX35_lineItem_43 : decode cX35_lineItem 43 = .ok (.iconst 3, 1) := dc_6 (by decide +kernel)
theorem dX35_lineItem_44 : decode cX35_lineItem 44 = .ok (.iadd, 1) := dc_96 (by decide +kernel)
theorem dX35_lineItem_45 : decode cX35_lineItem 45 = .ok (.iload 4, 2) := dc_21 (a := 4) (by decide +kernel)
theorem dX35_lineItem_47 : decode cX35_lineItem 47 = .ok (.iastore, 1) := dc_79 (by decide +kernel)
theorem dX35_lineItem_48 : decode cX35_lineItem 48 = .ok (.aload_n 0, 1) := dc_42 (by decide +kernel)
theorem dX35_lineItem_49 : decode cX35_lineItem 49 = .ok (.getfield 246, 3) := dc_180 (a := 0) (b := 246) (n := 246) (by decide +kernel)
theorem dX35_lineItem_52 : decode cX35_lineItem 52 = .ok (.iload 7, 2) := dc_21 (a := 7) (by decide +kernel)
theorem dX35_lineItem_54 : decode cX35_lineItem 54 = .ok (.iconst 4, 1) := dc_7 (by decide +kernel)
theorem dX35_lineItem_55 : decode cX35_lineItem 55 = .ok (.iadd, 1) := dc_96 (by decide +kernel)
theorem dX35_lineItem_56 : decode cX35_lineItem 56 = .ok (.iload 5, 2) := dc_21 (a := 5) (by decide +kernel)
theorem dX35_lineItem_58 : decode cX35_lineItem 58 = .ok (.iastore, 1) := dc_79 (by decide +kernel)
theorem dX35_lineItem_59 : decode cX35_lineItem 59 = .ok (.aload_n 0, 1) := dc_42 (by decide +kernel)
theorem dX35_lineItem_60 : decode cX35_lineItem 60 = .ok (.getfield 246, 3) := dc_180 (a := 0) (b := 246) (n := 246) (by decide +kernel)
theorem dX35_lineItem_63 : decode cX35_lineItem 63 = .ok (.iload 7, 2) := dc_21 (a := 7) (by decide +kernel)
theorem dX35_lineItem_65 : decode cX35_lineItem 65 = .ok (.iconst 5, 1) := dc_8 (by decide +kernel)
theorem dX35_lineItem_66 : decode cX35_lineItem 66 = .ok (.iadd, 1) := dc_96 (by decide +kernel)
theorem dX35_lineItem_67 : decode cX35_lineItem 67 = .ok (.iload 6, 2) := dc_21 (a := 6) (by decide +kernel)
theorem dX35_lineItem_69 : decode cX35_lineItem 69 = .ok (.iastore, 1) := dc_79 (by decide +kernel)
theorem dX35_lineItem_70 : decode cX35_lineItem 70 = .ok (.aload_n 0, 1) := dc_42 (by decide +kernel)
theorem dX35_lineItem_71 : decode cX35_lineItem 71 = .ok (.dup, 1) := dc_89 (by decide +kernel)
theorem dX35_lineItem_72 : decode cX35_lineItem 72 = .ok (.getfield 936, 3) := dc_180 (a := 3) (b := 168) (n := 936) (by decide +kernel)
theorem dX35_lineItem_75 : decode cX35_lineItem 75 = .ok (.iconst 1, 1) := dc_4 (by decide +kernel)
theorem dX35_lineItem_76 : decode cX35_lineItem 76 = .ok (.iadd, 1) := dc_96 (by decide +kernel)
theorem dX35_lineItem_77 : decode cX35_lineItem 77 = .ok (.putfield 936, 3) := dc_181 (a := 3) (b := 168) (n := 936) (by decide +kernel)
theorem dX35_lineItem_80 : decode cX35_lineItem 80 = .ok (.return_, 1) := dc_177 (by decide +kernel)
theorem GX35_246 {w : eW} {d : Nat} {Y : eY} {pc : Nat} {ls : eL} {st : List Value} {h : eH} {Q : eO → eH → Prop} {a : Nat} {x : Nat} (hf : g_A 34 h a 127 = some x) (hd : decode Y.2.1 pc = .ok (.getfield 246, 3)) (hY : Y.1.cls = RX35) (kk : wp w d Y (pc + 3) ls (.ref x :: st) h Q) : wp w d Y pc ls (.ref a :: st) h Q := x_gA (ci := 34) (k := 127) hf hd rfl (by decide) (by rw [hY]; exact q4628) kk
theorem GX35_936 {w : eW} {d : Nat} {Y : eY} {pc : Nat} {ls : eL} {st : List Value} {h : eH} {Q : eO → eH → Prop} {a : Nat} {x : Int32} (hf : g_I 34 h a 128 = some x) (hd : decode Y.2.1 pc = .ok (.getfield 936, 3)) (hY : Y.1.cls = RX35) (kk : wp w d Y (pc + 3) ls (.int x :: st) h Q) : wp w d Y pc ls (.ref a :: st) h Q := x_gI (ci := 34) (k := 128) hf hd rfl (by decide) (by rw [hY]; exact q4629) kk
theorem SX35_936 {w : eW} {d : Nat} {Y : eY} {pc : Nat} {ls : eL} {st : List Value} {h : eH} {Q : eO → eH → Prop} {a : Nat} {h' : eH} {x : Int32} (hf : p_V 34 h a 128 (.int x) = some h') (hd : decode Y.2.1 pc = .ok (.putfield 936, 3)) (hY : Y.1.cls = RX35) (kk : wp w d Y (pc + 3) ls st h' Q) : wp w d Y pc ls (.int x :: .ref a :: st) h Q := x_pI (ci := 34) (k := 128) hf hd rfl (by decide) (by rw [hY]; exact q4629) rfl rfl kk
def fX35_lineItem (this : Nat) (p0 : Int32) (p1 : Int32) (p2 : Int32) (p3 : Int32) (p4 : Int32) (p5 : Int32) (h : eH) : Option (Unit × eH) :=
  (g_I 34 h this 128).bind fun x1 =>
  (g_A 34 h this 127).bind fun a3 =>
  (q_V 100 h a3 ((6 : Int32) * x1) (.int p0)).bind fun h5 =>
  (g_A 34 h5 this 127).bind fun a7 =>
  (q_V 100 h5 a7 (((6 : Int32) * x1) + (1 : Int32)) (.int p1)).bind fun h9 =>
  (g_A 34 h9 this 127).bind fun a11 =>
  (q_V 100 h9 a11 (((6 : Int32) * x1) + (2 : Int32)) (.int p2)).bind fun h13 =>
  (g_A 34 h13 this 127).bind fun a15 =>
  (q_V 100 h13 a15 (((6 : Int32) * x1) + (3 : Int32)) (.int p3)).bind fun h17 =>
  (g_A 34 h17 this 127).bind fun a19 =>
  (q_V 100 h17 a19 (((6 : Int32) * x1) + (4 : Int32)) (.int p4)).bind fun h21 =>
  (g_A 34 h21 this 127).bind fun a23 =>
  (q_V 100 h21 a23 (((6 : Int32) * x1) + (5 : Int32)) (.int p5)).bind fun h25 =>
  (g_I 34 h25 this 128).bind fun x27 =>
  (p_V 34 h25 this 128 (.int (x27 + (1 : Int32)))).bind fun h29 =>
  some ((), h29)
theorem pX35_lineItem {w : eW} {d : Nat} (hd : 0 ≤ d) {this : Nat} {p0 : Int32} {p1 : Int32} {p2 : Int32} {p3 : Int32} {p4 : Int32} {p5 : Int32} {h : eH} {q} (hf : fX35_lineItem this p0 p1 p2 p3 p4 p5 h = some q) : wm w d YX35_lineItem [.ref this, .int p0, .int p1, .int p2, .int p3, .int p4, .int p5] h (e_is (e_rn c_V q)) := by
  show wp w d YX35_lineItem 0 [some (.ref this), some (.int p0), some (.int p1), some (.int p2), some (.int p3), some (.int p4), some (.int p5), none] [] h _
  unfold fX35_lineItem at hf
  refine w_bipush dX35_lineItem_0 (v := 6) (by decide) ?_
  refine w_aload_n dX35_lineItem_2 rfl rfl ?_
  obtain ⟨x1, b2, hf⟩ := Option.bind_eq_some_iff.mp hf
  refine GX35_936 b2 dX35_lineItem_3 rfl ?_
  refine w_imul dX35_lineItem_6 ?_
  refine w_istore dX35_lineItem_7 (by decide) (ls' := [some (.ref this), some (.int p0), some (.int p1), some (.int p2), some (.int p3), some (.int p4), some (.int p5), some (.int ((6 : Int32) * x1))]) rfl ?_
  refine w_aload_n dX35_lineItem_9 rfl rfl ?_
  obtain ⟨a3, b4, hf⟩ := Option.bind_eq_some_iff.mp hf
  refine GX35_246 b4 dX35_lineItem_10 rfl ?_
  refine w_iload dX35_lineItem_13 rfl ?_
  refine w_iload_n dX35_lineItem_15 rfl rfl ?_
  obtain ⟨h5, b6, hf⟩ := Option.bind_eq_some_iff.mp hf
  refine x_qI b6 dX35_lineItem_16 ?_
  refine w_aload_n dX35_lineItem_17 rfl rfl ?_
  obtain ⟨a7, b8, hf⟩ := Option.bind_eq_some_iff.mp hf
  refine GX35_246 b8 dX35_lineItem_18 rfl ?_
  refine w_iload dX35_lineItem_21 rfl ?_
  refine w_iconst dX35_lineItem_23 (v := 1) (by decide) ?_
  refine w_iadd dX35_lineItem_24 ?_
  refine w_iload_n dX35_lineItem_25 rfl rfl ?_
  obtain ⟨h9, b10, hf⟩ := Option.bind_eq_some_iff.mp hf
  refine x_qI b10 dX35_lineItem_26 ?_
  refine w_aload_n dX35_lineItem_27 rfl rfl ?_
  obtain ⟨a11, b12, hf⟩ := Option.bind_eq_some_iff.mp hf
  refine GX35_246 b12 dX35_lineItem_28 rfl ?_
  refine w_iload dX35_lineItem_31 rfl ?_
  refine w_iconst dX35_lineItem_33 (v := 2) (by decide) ?_
  refine w_iadd dX35_lineItem_34 ?_
  refine w_iload_n dX35_lineItem_35 rfl rfl ?_
  obtain ⟨h13, b14, hf⟩ := Option.bind_eq_some_iff.mp hf
  refine x_qI b14 dX35_lineItem_36 ?_
  refine w_aload_n dX35_lineItem_37 rfl rfl ?_
  obtain ⟨a15, b16, hf⟩ := Option.bind_eq_some_iff.mp hf
  refine GX35_246 b16 dX35_lineItem_38 rfl ?_
  refine w_iload dX35_lineItem_41 rfl ?_
  refine w_iconst dX35_lineItem_43 (v := 3) (by decide) ?_
  refine w_iadd dX35_lineItem_44 ?_
  refine w_iload dX35_lineItem_45 rfl ?_
  obtain ⟨h17, b18, hf⟩ := Option.bind_eq_some_iff.mp hf
  refine x_qI b18 dX35_lineItem_47 ?_
  refine w_aload_n dX35_lineItem_48 rfl rfl ?_
  obtain ⟨a19, b20, hf⟩ := Option.bind_eq_some_iff.mp hf
  refine GX35_246 b20 dX35_lineItem_49 rfl ?_
  refine w_iload dX35_lineItem_52 rfl ?_
  refine w_iconst dX35_lineItem_54 (v := 4) (by decide) ?_
  refine w_iadd dX35_lineItem_55 ?_
  refine w_iload dX35_lineItem_56 rfl ?_
  obtain ⟨h21, b22, hf⟩ := Option.bind_eq_some_iff.mp hf
  refine x_qI b22 dX35_lineItem_58 ?_
  refine w_aload_n dX35_lineItem_59 rfl rfl ?_
  obtain ⟨a23, b24, hf⟩ := Option.bind_eq_some_iff.mp hf
  refine GX35_246 b24 dX35_lineItem_60 rfl ?_
  refine w_iload dX35_lineItem_63 rfl ?_
  refine w_iconst dX35_lineItem_65 (v := 5) (by decide) ?_
  refine w_iadd dX35_lineItem_66 ?_
  refine w_iload dX35_lineItem_67 rfl ?_
  obtain ⟨h25, b26, hf⟩ := Option.bind_eq_some_iff.mp hf
  refine x_qI b26 dX35_lineItem_69 ?_
  refine w_aload_n dX35_lineItem_70 rfl rfl ?_
  refine w_dup dX35_lineItem_71 rfl ?_
  obtain ⟨x27, b28, hf⟩ := Option.bind_eq_some_iff.mp hf
  refine GX35_936 b28 dX35_lineItem_72 rfl ?_
  refine w_iconst dX35_lineItem_75 (v := 1) (by decide) ?_
  refine w_iadd dX35_lineItem_76 ?_
  obtain ⟨h29, b30, hf⟩ := Option.bind_eq_some_iff.mp hf
  refine SX35_936 b30 dX35_lineItem_77 rfl ?_
  cases hf
  exact w_vret dX35_lineItem_80 rfl rfl
abbrev cX35_lineGlue : ByteArray := prog_37_method_129_code
def yX35_lineGlue : MethodName := ⟨RX35, "lineGlue", "(I)V"⟩
def YX35_lineGlue : eY := (yX35_lineGlue, cX35_lineGlue, 3, none, [])
theorem mX35_lineGlue : e_mv YX35_lineGlue RX35 1 := ⟨q5881, qs390, q5882, by decide, by decide +kernel, (e_sig (by decide +kernel))⟩
theorem dX35_lineGlue_0 : decode cX35_lineGlue 0 = .ok (.sipush 2247, 3) := dc_17 (a := 8) (b := 199) (v := 2247) (by decide +kernel)
theorem dX35_lineGlue_3 : decode cX35_lineGlue 3 = .ok (.iconst 4, 1) := dc_7 (by decide +kernel)
theorem dX35_lineGlue_4 : decode cX35_lineGlue 4 = .ok (.iload_n 1, 1) := dc_27 (by decide +kernel)
theorem dX35_lineGlue_5 : decode cX35_lineGlue 5 = .ok (.imul, 1) := dc_104 (by decide +kernel)
theorem dX35_lineGlue_6 : decode cX35_lineGlue 6 = .ok (.iadd, 1) := dc_96 (by decide +kernel)
theorem dX35_lineGlue_7 : decode cX35_lineGlue 7 = .ok (.istore_n 2, 1) := dc_61 (by decide +kernel)
theorem dX35_lineGlue_8 : decode cX35_lineGlue 8 = .ok (.aload_n 0, 1) := dc_42 (by decide +kernel)
theorem dX35_lineGlue_9 : decode cX35_lineGlue 9 = .ok (.iconst 2, 1) := dc_5 (by decide +kernel)
theorem dX35_lineGlue_10 : decode cX35_lineGlue 10 = .ok (.aload_n 0, 1) := dc_42 (by decide +kernel)
theorem dX35_lineGlue_11 : decode cX35_lineGlue 11 = .ok (.iload_n 2, 1) := dc_28 (by decide +kernel)
theorem dX35_lineGlue_12 : decode cX35_lineGlue 12 = .ok (.invokevirtual 431, 3) := dc_182 (a := 1) (b := 175) (n := 431) (by decide +kernel)
theorem dX35_lineGlue_15 : decode cX35_lineGlue 15 = .ok (.aload_n 0, 1) := dc_42 (by decide +kernel)
theorem dX35_lineGlue_16 : decode cX35_lineGlue 16 = .ok (.iload_n 2, 1) := dc_28 (by decide +kernel)
theorem dX35_lineGlue_17 : decode cX35_lineGlue 17 = .ok (.iconst 1, 1) := dc_4 (by decide +kernel)
theorem dX35_lineGlue_18 : decode cX35_lineGlue 18 = .ok (.iadd, 1) := dc_96 (by decide +kernel)
theorem dX35_lineGlue_19 : decode cX35_lineGlue 19 = .ok (.invokevirtual 431, 3) := dc_182 (a := 1) (b := 175) (n := 431) (by decide +kernel)
theorem dX35_lineGlue_22 : decode cX35_lineGlue 22 = .ok (.aload_n 0, 1) := dc_42 (by decide +kernel)
theorem dX35_lineGlue_23 : decode cX35_lineGlue 23 = .ok (.iload_n 2, 1) := dc_28 (by decide +kernel)
theorem dX35_lineGlue_24 : decode cX35_lineGlue 24 = .ok (.iconst 2, 1) := dc_5 (by decide +kernel)
theorem dX35_lineGlue_25 : decode cX35_lineGlue 25 = .ok (.iadd, 1) := dc_96 (by decide +kernel)
theorem dX35_lineGlue_26 : decode cX35_lineGlue 26 = .ok (.invokevirtual 431, 3) := dc_182 (a := 1) (b := 175) (n := 431) (by decide +kernel)
theorem dX35_lineGlue_29 : decode cX35_lineGlue 29 = .ok (.aload_n 0, 1) := dc_42 (by decide +kernel)
theorem dX35_lineGlue_30 : decode cX35_lineGlue 30 = .ok (.iload_n 2, 1) := dc_28 (by decide +kernel)
theorem dX35_lineGlue_31 : decode cX35_lineGlue 31 = .ok (.iconst 3, 1) := dc_6 (by decide +kernel)
theorem dX35_lineGlue_32 : decode cX35_lineGlue 32 = .ok (.iadd, 1) := dc_96 (by decide +kernel)
theorem dX35_lineGlue_33 : decode cX35_lineGlue 33 = .ok (.invokevirtual 431, 3) := dc_182 (a := 1) (b := 175) (n := 431) (by decide +kernel)
theorem dX35_lineGlue_36 : decode cX35_lineGlue 36 = .ok (.iconst 0, 1) := dc_3 (by decide +kernel)
theorem dX35_lineGlue_37 : decode cX35_lineGlue 37 = .ok (.invokevirtual 939, 3) := dc_182 (a := 3) (b := 171) (n := 939) (by decide +kernel)
theorem dX35_lineGlue_40 : decode cX35_lineGlue 40 = .ok (.return_, 1) := dc_177 (by decide +kernel)
def fX35_lineGlue (this : Nat) (p0 : Int32) (h : eH) : Option (Unit × eH) :=
  (k_ok 34 h this).bind fun _ =>
  (fX35_now this ((2247 : Int32) + ((4 : Int32) * p0)) h).bind fun q2 =>
  (k_ok 34 q2.2 this).bind fun _ =>
  (fX35_now this (((2247 : Int32) + ((4 : Int32) * p0)) + (1 : Int32)) q2.2).bind fun q4 =>
  (k_ok 34 q4.2 this).bind fun _ =>
  (fX35_now this (((2247 : Int32) + ((4 : Int32) * p0)) + (2 : Int32)) q4.2).bind fun q6 =>
  (k_ok 34 q6.2 this).bind fun _ =>
  (fX35_now this (((2247 : Int32) + ((4 : Int32) * p0)) + (3 : Int32)) q6.2).bind fun q8 =>
  (k_ok 34 q8.2 this).bind fun _ =>
  (fX35_lineItem this (2 : Int32) q2.1 q4.1 q6.1 q8.1 (0 : Int32) q8.2).bind fun q10 =>
  some ((), q10.2)
theorem pX35_lineGlue {w : eW} {d : Nat} (hd : 1 ≤ d) {this : Nat} {p0 : Int32} {h : eH} {q} (hf : fX35_lineGlue this p0 h = some q) : wm w d YX35_lineGlue [.ref this, .int p0] h (e_is (e_rn c_V q)) := by
  obtain ⟨d, rfl⟩ : ∃ e, d = e + 1 := ⟨d - 1, by omega⟩
  show wp w (d + 1) YX35_lineGlue 0 [some (.ref this), some (.int p0), none] [] h _
  unfold fX35_lineGlue at hf
  refine w_sipush dX35_lineGlue_0 (v := 2247) (by decide) ?_
  refine w_iconst dX35_lineGlue_3 (v := 4) (by decide) ?_
  refine w_iload_n dX35_lineGlue_4 rfl rfl ?_
  refine w_imul dX35_lineGlue_5 ?_
  refine w_iadd dX35_lineGlue_6 ?_
  refine w_istore_n dX35_lineGlue_7 rfl (by decide) (ls' := [some (.ref this), some (.int p0), some (.int ((2247 : Int32) + ((4 : Int32) * p0)))]) rfl ?_
  refine w_aload_n dX35_lineGlue_8 rfl rfl ?_
  refine w_iconst dX35_lineGlue_9 (v := 2) (by decide) ?_
  refine w_aload_n dX35_lineGlue_10 rfl rfl ?_
  refine w_iload_n dX35_lineGlue_11 rfl rfl ?_
  obtain ⟨_, b1, hf⟩ := Option.bind_eq_some_iff.mp hf
  refine x_cnI hf (e_stV (Yc := YX35_now) (ci := 34) (av := [.int ((2247 : Int32) + ((4 : Int32) * p0))]) (st := [.int (2 : Int32), .ref this]) dX35_lineGlue_12 q5097 mX35_now rfl (k_ok_some b1).1 (k_ok_some b1).2) mX35_now.2.2.1 mX35_now.2.2.2.2.1 (Nat.le_of_ble_eq_true rfl) (Nat.le_of_ble_eq_true rfl) (fun q hq => pX35_now (by omega) hq) (fun q2 hf => ?_)
  refine w_aload_n dX35_lineGlue_15 rfl rfl ?_
  refine w_iload_n dX35_lineGlue_16 rfl rfl ?_
  refine w_iconst dX35_lineGlue_17 (v := 1) (by decide) ?_
  refine w_iadd dX35_lineGlue_18 ?_
  obtain ⟨_, b3, hf⟩ := Option.bind_eq_some_iff.mp hf
  refine x_cnI hf (e_stV (Yc := YX35_now) (ci := 34) (av := [.int (((2247 : Int32) + ((4 : Int32) * p0)) + (1 : Int32))]) (st := [.int q2.1, .int (2 : Int32), .ref this]) dX35_lineGlue_19 q5097 mX35_now rfl (k_ok_some b3).1 (k_ok_some b3).2) mX35_now.2.2.1 mX35_now.2.2.2.2.1 (Nat.le_of_ble_eq_true rfl) (Nat.le_of_ble_eq_true rfl) (fun q hq => pX35_now (by omega) hq) (fun q4 hf => ?_)
  refine w_aload_n dX35_lineGlue_22 rfl rfl ?_
  refine w_iload_n dX35_lineGlue_23 rfl rfl ?_
  refine w_iconst dX35_lineGlue_24 (v := 2) (by decide) ?_
  refine w_iadd dX35_lineGlue_25 ?_
  obtain ⟨_, b5, hf⟩ := Option.bind_eq_some_iff.mp hf
  refine x_cnI hf (e_stV (Yc := YX35_now) (ci := 34) (av := [.int (((2247 : Int32) + ((4 : Int32) * p0)) + (2 : Int32))]) (st := [.int q4.1, .int q2.1, .int (2 : Int32), .ref this]) dX35_lineGlue_26 q5097 mX35_now rfl (k_ok_some b5).1 (k_ok_some b5).2) mX35_now.2.2.1 mX35_now.2.2.2.2.1 (Nat.le_of_ble_eq_true rfl) (Nat.le_of_ble_eq_true rfl) (fun q hq => pX35_now (by omega) hq) (fun q6 hf => ?_)
  refine w_aload_n dX35_lineGlue_29 rfl rfl ?_
  refine w_iload_n dX35_lineGlue_30 rfl rfl ?_
  refine w_iconst dX35_lineGlue_31 (v := 3) (by decide) ?_
  refine w_iadd dX35_lineGlue_32 ?_
  obtain ⟨_, b7, hf⟩ := Option.bind_eq_some_iff.mp hf
  refine x_cnI hf (e_stV (Yc := YX35_now) (ci := 34) (av := [.int (((2247 : Int32) + ((4 : Int32) * p0)) + (3 : Int32))]) (st := [.int q6.1, .int q4.1, .int q2.1, .int (2 : Int32), .ref this]) dX35_lineGlue_33 q5097 mX35_now rfl (k_ok_some b7).1 (k_ok_some b7).2) mX35_now.2.2.1 mX35_now.2.2.2.2.1 (Nat.le_of_ble_eq_true rfl) (Nat.le_of_ble_eq_true rfl) (fun q hq => pX35_now (by omega) hq) (fun q8 hf => ?_)
  refine w_iconst dX35_lineGlue_36 (v := 0) (by decide) ?_
  obtain ⟨_, b9, hf⟩ := Option.bind_eq_some_iff.mp hf
  refine x_cnV hf (e_stV (Yc := YX35_lineItem) (ci := 34) (av := [.int (2 : Int32), .int q2.1, .int q4.1, .int q6.1, .int q8.1, .int (0 : Int32)]) (st := []) dX35_lineGlue_37 q5883 mX35_lineItem rfl (k_ok_some b9).1 (k_ok_some b9).2) mX35_lineItem.2.2.1 mX35_lineItem.2.2.2.2.1 (Nat.le_of_ble_eq_true rfl) (Nat.le_of_ble_eq_true rfl) (fun q hq => pX35_lineItem (by omega) hq) (fun q10 hf => ?_)
  cases hf
  exact w_vret dX35_lineGlue_40 rfl rfl
abbrev cX35_kept : ByteArray := prog_37_method_111_code
def yX35_kept : MethodName := ⟨RX35, "kept", "(J)I"⟩
def YX35_kept : eY := (yX35_kept, cX35_kept, 2, (Option.some FieldType.int), [])
theorem mX35_kept : e_ms YX35_kept 1 := ⟨q5892, q466, q5893, by decide, by decide +kernel, (e_sig (by decide +kernel))⟩
theorem dX35_kept_0 : decode cX35_kept 0 = .ok (.lload_n 0, 1) := dc_30 (by decide +kernel)
theorem dX35_kept_1 : decode cX35_kept 1 = .ok (.ldc2_w 672, 3) := dc_20 (a := 2) (b := 160) (n := 672) (by decide +kernel)
theorem dX35_kept_4 : decode cX35_kept 4 = .ok (.lcmp, 1) := dc_148 (by decide +kernel)
theorem dX35_kept_5 : decode cX35_kept 5 = .ok (.ifCond .le 9, 3) := dc_158 (a := 0) (b := 9) (v := 9) (by decide +kernel)
theorem dX35_kept_8 : decode cX35_kept 8 = .ok (.ldc2_w 672, 3) := dc_20 (a := 2) (b := 160) (n := 672) (by decide +kernel)
theorem dX35_kept_11 : decode cX35_kept 11 = .ok (.goto 18, 3) := dc_167 (a := 0) (b := 18) (v := 18) (by decide +kernel)
theorem dX35_kept_14 : decode cX35_kept 14 = .ok (.lload_n 0, 1) := dc_30 (by decide +kernel)
theorem dX35_kept_15 : decode cX35_kept 15 = .ok (.ldc2_w 805, 3) := dc_20 (a := 3) (b := 37) (n := 805) (by decide +kernel)
theorem dX35_kept_18 : decode cX35_kept 18 = .ok (.lcmp, 1) := dc_148 (by decide +kernel)
theorem dX35_kept_19 : decode cX35_kept 19 = .ok (.ifCond .ge 9, 3) := dc_156 (a := 0) (b := 9) (v := 9) (by decide +kernel)
theorem dX35_kept_22 : decode cX35_kept 22 = .ok (.ldc2_w 805, 3) := dc_20 (a := 3) (b := 37) (n := 805) (by decide +kernel)
theorem dX35_kept_25 : decode cX35_kept 25 = .ok (.goto 4, 3) := dc_167 (a := 0) (b := 4) (v := 4) (by decide +kernel)
theorem dX35_kept_28 : decode cX35_kept 28 = .ok (.lload_n 0, 1) := dc_30 (by decide +kernel)
theorem dX35_kept_29 : decode cX35_kept 29 = .ok (.l2i, 1) := dc_136 (by decide +kernel)
theorem dX35_kept_30 : decode cX35_kept 30 = .ok (.ireturn, 1) := dc_172 (by decide +kernel)
def fX35_kept_b29 (s0 : Int64) (h : eH) : Option (Int32 × eH) :=
  some ((s0).toInt32, h)
theorem pX35_kept_b29 {w : eW} {d : Nat} (hd : 0 ≤ d) {s0 : Int64} {h : eH} {q} (hf : fX35_kept_b29 s0 h = some q) : wp w d YX35_kept 29 [none, none] [.long s0] h (e_is (e_rn c_I q)) := by
  unfold fX35_kept_b29 at hf
  refine w_l2i dX35_kept_29 ?_
  cases hf
  exact w_iret dX35_kept_30 rfl rfl rfl
def fX35_kept (p0 : Int64) (h : eH) : Option (Int32 × eH) :=
  if (lg_cmp p0 (10000 : Int64)) ≤ 0 then
    if 0 ≤ (lg_cmp p0 (-10000 : Int64)) then
      fX35_kept_b29 p0 h
    else
      fX35_kept_b29 (-10000 : Int64) h
  else
    fX35_kept_b29 (10000 : Int64) h
theorem pX35_kept {w : eW} {d : Nat} (hd : 0 ≤ d) {p0 : Int64} {h : eH} {q} (hf : fX35_kept p0 h = some q) : wm w d YX35_kept [.long p0] h (e_is (e_rn c_I q)) := by
  show wp w d YX35_kept 0 [some (.long p0), none] [] h _
  unfold fX35_kept at hf
  refine w_lload_n dX35_kept_0 rfl rfl ?_
  refine w_ldc2 dX35_kept_1 q5345 ?_
  refine w_lcmp dX35_kept_4 ?_
  refine w_if_le 14 dX35_kept_5 (by decide) (fun c1 => ?_) (fun c1 => ?_)
  · replace hf := (if_pos (show (lg_cmp p0 (10000 : Int64)) ≤ 0 from c1)).symm.trans hf
    refine w_lload_n dX35_kept_14 rfl rfl ?_
    refine w_ldc2 dX35_kept_15 q5894 ?_
    refine w_lcmp dX35_kept_18 ?_
    refine w_if_ge 28 dX35_kept_19 (by decide) (fun c2 => ?_) (fun c2 => ?_)
    · replace hf := (if_pos (show 0 ≤ (lg_cmp p0 (-10000 : Int64)) from c2)).symm.trans hf
      refine w_lload_n dX35_kept_28 rfl rfl ?_
      exact (pX35_kept_b29 hd hf).to trivial
    · replace hf := (if_neg (show ¬ (0 ≤ (lg_cmp p0 (-10000 : Int64))) from c2)).symm.trans hf
      refine w_ldc2 dX35_kept_22 q5894 ?_
      refine w_goto 29 dX35_kept_25 (by decide) ?_
      exact (pX35_kept_b29 hd hf).to trivial
  · replace hf := (if_neg (show ¬ ((lg_cmp p0 (10000 : Int64)) ≤ 0) from c1)).symm.trans hf
    refine w_ldc2 dX35_kept_8 q5345 ?_
    refine w_goto 29 dX35_kept_11 (by decide) ?_
    exact (pX35_kept_b29 hd hf).to trivial
abbrev cX35_penaltyItem : ByteArray := prog_37_method_112_code
def yX35_penaltyItem : MethodName := ⟨RX35, "penaltyItem", "(J)V"⟩
def YX35_penaltyItem : eY := (yX35_penaltyItem, cX35_penaltyItem, 3, none, [])
theorem mX35_penaltyItem : e_mv YX35_penaltyItem RX35 1 := ⟨q5889, qs392, q5890, by decide, by decide +kernel, (e_sig (by decide +kernel))⟩
theorem dX35_penaltyItem_0 : decode cX35_penaltyItem 0 = .ok (.aload_n 0, 1) := dc_42 (by decide +kernel)
theorem dX35_penaltyItem_1 : decode cX35_penaltyItem 1 = .ok (.invokevirtual 587, 3) := dc_182 (a := 2) (b := 75) (n := 587) (by decide +kernel)
theorem dX35_penaltyItem_4 : decode cX35_penaltyItem 4 = .ok (.ifCond .ne 20, 3) := dc_154 (a := 0) (b := 20) (v := 20) (by decide +kernel)
theorem dX35_penaltyItem_7 : decode cX35_penaltyItem 7 = .ok (.aload_n 0, 1) := dc_42 (by decide +kernel)
theorem dX35_penaltyItem_8 : decode cX35_penaltyItem 8 = .ok (.iconst 4, 1) := dc_7 (by decide +kernel)
theorem dX35_penaltyItem_9 : decode cX35_penaltyItem 9 = .ok (.lload_n 1, 1) := dc_31 (by decide +kernel)
theorem dX35_penaltyItem_10 : decode cX35_penaltyItem 10 = .ok (.invokestatic 807, 3) := dc_184 (a := 3) (b := 39) (n := 807) (by decide +kernel)
theorem dX35_penaltyItem_13 : decode cX35_penaltyItem 13 = .ok (.iconst 0, 1) := dc_3 (by decide +kernel)
theorem dX35_penaltyItem_14 : decode cX35_penaltyItem 14 = .ok (.iconst 0, 1) := dc_3 (by decide +kernel)
theorem dX35_penaltyItem_15 : decode cX35_penaltyItem 15 = .ok (.iconst 0, 1) := dc_3 (by decide +kernel)
theorem dX35_penaltyItem_16 : decode cX35_penaltyItem 16 = .ok (.iconst (-1), 1) := dc_2 (by decide +kernel)
theorem dX35_penaltyItem_17 : decode cX35_penaltyItem 17 = .ok (.iconst 0, 1) := dc_3 (by decide +kernel)
theorem dX35_penaltyItem_18 : decode cX35_penaltyItem 18 = .ok (.invokevirtual 794, 3) := dc_182 (a := 3) (b := 26) (n := 794) (by decide +kernel)
theorem dX35_penaltyItem_21 : decode cX35_penaltyItem 21 = .ok (.goto 16, 3) := dc_167 (a := 0) (b := 16) (v := 16) (by decide +kernel)
theorem dX35_penaltyItem_24 : decode cX35_penaltyItem 24 = .ok (.aload_n 0, 1) := dc_42 (by decide +kernel)
theorem dX35_penaltyItem_25 : decode cX35_penaltyItem 25 = .ok (.iconst 4, 1) := dc_7 (by decide +kernel)
theorem dX35_penaltyItem_26 : decode cX35_penaltyItem 26 = .ok (.lload_n 1, 1) := dc_31 (by decide +kernel)
theorem dX35_penaltyItem_27 : decode cX35_penaltyItem 27 = .ok (.invokestatic 807, 3) := dc_184 (a := 3) (b := 39) (n := 807) (by decide +kernel)
theorem dX35_penaltyItem_30 : decode cX35_penaltyItem 30 = .ok (.iconst 0, 1) := dc_3 (by decide +kernel)
theorem dX35_penaltyItem_31 : decode cX35_penaltyItem 31 = .ok (.iconst 0, 1) := dc_3 (by decide +kernel)
theorem dX35_penaltyItem_32 : decode cX35_penaltyItem 32 = .ok (.iconst 0, 1) := dc_3 (by decide +kernel)
theorem dX35_penaltyItem_33 : decode cX35_penaltyItem 33 = .ok (.iconst 0, 1) := dc_3 (by decide +kernel)
theorem dX35_penaltyItem_34 : decode cX35_penaltyItem 34 = .ok (.invokevirtual 798, 3) := dc_182 (a := 3) (b := 30) (n := 798) (by decide +kernel)
theorem dX35_penaltyItem_37 : decode cX35_penaltyItem 37 = .ok (.return_, 1) := dc_177 (by decide +kernel)
def fX35_penaltyItem_b37 (N : Nat) (sL : Nat → Int32 → Int64 → Int64 → eH → Option (Int32 × eH))  (h : eH) : Option (Unit × eH) :=
  some ((), h)
theorem pX35_penaltyItem_b37 {w : eW} {d : Nat} {dr : Nat} (hd : dr + 9 ≤ d + 1) (hdr : 12 ≤ dr) {N : Nat} {sL : Nat → Int32 → Int64 → Int64 → eH → Option (Int32 × eH)} (hsL : ∀ a t0 t1 t2 h q, sL a t0 t1 t2 h = some q → wm w dr YX35_layBox [.ref a, .int t0, .long t1, .long t2] h (e_is (e_rn c_I q)))  {h : eH} {q} (hf : fX35_penaltyItem_b37 N sL h = some q) : wp w (d + 1) YX35_penaltyItem 37 [none, none, none] [] h (e_is (e_rn c_V q)) := by
  unfold fX35_penaltyItem_b37 at hf
  cases hf
  exact w_vret dX35_penaltyItem_37 rfl rfl
def fX35_penaltyItem (N : Nat) (sL : Nat → Int32 → Int64 → Int64 → eH → Option (Int32 × eH)) (this : Nat) (p0 : Int64) (h : eH) : Option (Unit × eH) :=
  (k_ok 34 h this).bind fun _ =>
  (fX35_mode this h).bind fun q2 =>
  if ¬ q2.1 = 0 then
    (fX35_kept p0 q2.2).bind fun q4 =>
    (k_ok 34 q4.2 this).bind fun _ =>
    (fX35_item N this (4 : Int32) q4.1 (0 : Int32) (0 : Int32) (0 : Int32) (0 : Int32) q4.2).bind fun q6 =>
    fX35_penaltyItem_b37 N sL q6.2
  else
    (fX35_kept p0 q2.2).bind fun q7 =>
    (k_ok 34 q7.2 this).bind fun _ =>
    (fX35_outer N sL this (4 : Int32) q7.1 (0 : Int32) (0 : Int32) (0 : Int32) (-1 : Int32) (0 : Int32) q7.2).bind fun q9 =>
    fX35_penaltyItem_b37 N sL q9.2
theorem pX35_penaltyItem {w : eW} {d : Nat} {dr : Nat} (hd : dr + 9 ≤ d) (hdr : 12 ≤ dr) {N : Nat} {sL : Nat → Int32 → Int64 → Int64 → eH → Option (Int32 × eH)} (hsL : ∀ a t0 t1 t2 h q, sL a t0 t1 t2 h = some q → wm w dr YX35_layBox [.ref a, .int t0, .long t1, .long t2] h (e_is (e_rn c_I q))) {this : Nat} {p0 : Int64} {h : eH} {q} (hf : fX35_penaltyItem N sL this p0 h = some q) : wm w d YX35_penaltyItem [.ref this, .long p0] h (e_is (e_rn c_V q)) := by
  obtain ⟨d, rfl⟩ : ∃ e, d = e + 1 := ⟨d - 1, by omega⟩
  show wp w (d + 1) YX35_penaltyItem 0 [some (.ref this), some (.long p0), none] [] h _
  unfold fX35_penaltyItem at hf
  refine w_aload_n dX35_penaltyItem_0 rfl rfl ?_
  obtain ⟨_, b1, hf⟩ := Option.bind_eq_some_iff.mp hf
  refine x_cnI hf (e_stV (Yc := YX35_mode) (ci := 34) (av := []) (st := []) dX35_penaltyItem_1 q5417 mX35_mode rfl (k_ok_some b1).1 (k_ok_some b1).2) mX35_mode.2.2.1 mX35_mode.2.2.2.2.1 (Nat.le_of_ble_eq_true rfl) (Nat.le_of_ble_eq_true rfl) (fun q hq => pX35_mode (by omega) hq) (fun q2 hf => ?_)
  refine w_if_ne 24 dX35_penaltyItem_4 (by decide) (fun c3 => ?_) (fun c3 => ?_)
  · replace hf := (if_pos (show ¬ q2.1 = 0 from c3)).symm.trans hf
    refine w_aload_n dX35_penaltyItem_24 rfl rfl ?_
    refine w_iconst dX35_penaltyItem_25 (v := 4) (by decide) ?_
    refine w_lload_n dX35_penaltyItem_26 rfl rfl ?_
    refine x_cnI hf (e_stS (Yc := YX35_kept) (av := [.long p0]) (st := [.int (4 : Int32), .ref this]) dX35_penaltyItem_27 q5891 mX35_kept) mX35_kept.2.2.1 mX35_kept.2.2.2.2.1 (Nat.le_of_ble_eq_true rfl) (Nat.le_of_ble_eq_true rfl) (fun q hq => pX35_kept (by omega) hq) (fun q4 hf => ?_)
    refine w_iconst dX35_penaltyItem_30 (v := 0) (by decide) ?_
    refine w_iconst dX35_penaltyItem_31 (v := 0) (by decide) ?_
    refine w_iconst dX35_penaltyItem_32 (v := 0) (by decide) ?_
    refine w_iconst dX35_penaltyItem_33 (v := 0) (by decide) ?_
    obtain ⟨_, b5, hf⟩ := Option.bind_eq_some_iff.mp hf
    refine x_cnV hf (e_stV (Yc := YX35_item) (ci := 34) (av := [.int (4 : Int32), .int q4.1, .int (0 : Int32), .int (0 : Int32), .int (0 : Int32), .int (0 : Int32)]) (st := []) dX35_penaltyItem_34 q5643 mX35_item rfl (k_ok_some b5).1 (k_ok_some b5).2) mX35_item.2.2.1 mX35_item.2.2.2.2.1 (Nat.le_of_ble_eq_true rfl) (Nat.le_of_ble_eq_true rfl) (fun q hq => pX35_item (by omega) hq) (fun q6 hf => ?_)
    exact (pX35_penaltyItem_b37 hd hdr hsL hf).to trivial
  · replace hf := (if_neg (show ¬ (¬ q2.1 = 0) from (fun z => z c3))).symm.trans hf
    refine w_aload_n dX35_penaltyItem_7 rfl rfl ?_
    refine w_iconst dX35_penaltyItem_8 (v := 4) (by decide) ?_
    refine w_lload_n dX35_penaltyItem_9 rfl rfl ?_
    refine x_cnI hf (e_stS (Yc := YX35_kept) (av := [.long p0]) (st := [.int (4 : Int32), .ref this]) dX35_penaltyItem_10 q5891 mX35_kept) mX35_kept.2.2.1 mX35_kept.2.2.2.2.1 (Nat.le_of_ble_eq_true rfl) (Nat.le_of_ble_eq_true rfl) (fun q hq => pX35_kept (by omega) hq) (fun q7 hf => ?_)
    refine w_iconst dX35_penaltyItem_13 (v := 0) (by decide) ?_
    refine w_iconst dX35_penaltyItem_14 (v := 0) (by decide) ?_
    refine w_iconst dX35_penaltyItem_15 (v := 0) (by decide) ?_
    refine w_iconst dX35_penaltyItem_16 (v := -1) (by decide) ?_
    refine w_iconst dX35_penaltyItem_17 (v := 0) (by decide) ?_
    obtain ⟨_, b8, hf⟩ := Option.bind_eq_some_iff.mp hf
    refine x_cnV hf (e_stV (Yc := YX35_outer) (ci := 34) (av := [.int (4 : Int32), .int q7.1, .int (0 : Int32), .int (0 : Int32), .int (0 : Int32), .int (-1 : Int32), .int (0 : Int32)]) (st := []) dX35_penaltyItem_18 q5465 mX35_outer rfl (k_ok_some b8).1 (k_ok_some b8).2) mX35_outer.2.2.1 mX35_outer.2.2.2.2.1 (Nat.le_of_ble_eq_true rfl) (Nat.le_of_ble_eq_true rfl) (fun q hq => pX35_outer (by omega) hdr hsL hq) (fun q9 hf => ?_)
    refine w_goto 37 dX35_penaltyItem_21 (by decide) ?_
    exact (pX35_penaltyItem_b37 hd hdr hsL hf).to trivial
abbrev cX35_paragraphLine : ByteArray := prog_37_method_130_code
def yX35_paragraphLine : MethodName := ⟨RX35, "paragraphLine", "(III)V"⟩
def YX35_paragraphLine : eY := (yX35_paragraphLine, cX35_paragraphLine, 10, none, [])
theorem mX35_paragraphLine : e_mv YX35_paragraphLine RX35 3 := ⟨q5877, qs389, q5878, by decide, by decide +kernel, (e_sig (by decide +kernel))⟩
theorem dX35_paragraphLine_0 : decode cX35_paragraphLine 0 = .ok (.aload_n 0, 1) := dc_42 (by decide +kernel)
theorem dX35_paragraphLine_1 : decode cX35_paragraphLine 1 = .ok (.iconst 0, 1) := dc_3 (by decide +kernel)
theorem dX35_paragraphLine_2 : decode cX35_paragraphLine 2 = .ok (.putfield 936, 3) := dc_181 (a := 3) (b := 168) (n := 936) (by decide +kernel)
theorem dX35_paragraphLine_5 : decode cX35_paragraphLine 5 = .ok (.aload_n 0, 1) := dc_42 (by decide +kernel)
theorem dX35_paragraphLine_6 : decode cX35_paragraphLine 6 = .ok (.sipush 260, 3) := dc_17 (a := 1) (b := 4) (v := 260) (by decide +kernel)
theorem dX35_paragraphLine_9 : decode cX35_paragraphLine 9 = .ok (.invokevirtual 942, 3) := dc_182 (a := 3) (b := 174) (n := 942) (by decide +kernel)
theorem dX35_paragraphLine_12 : decode cX35_paragraphLine 12 = .ok (.aload_n 0, 1) := dc_42 (by decide +kernel)
theorem dX35_paragraphLine_13 : decode cX35_paragraphLine 13 = .ok (.getfield 35, 3) := dc_180 (a := 0) (b := 35) (n := 35) (by decide +kernel)
theorem dX35_paragraphLine_16 : decode cX35_paragraphLine 16 = .ok (.getfield 930, 3) := dc_180 (a := 3) (b := 162) (n := 930) (by decide +kernel)
theorem dX35_paragraphLine_19 : decode cX35_paragraphLine 19 = .ok (.iload_n 1, 1) := dc_27 (by decide +kernel)
theorem dX35_paragraphLine_20 : decode cX35_paragraphLine 20 = .ok (.iaload, 1) := dc_46 (by decide +kernel)
theorem dX35_paragraphLine_21 : decode cX35_paragraphLine 21 = .ok (.istore 4, 2) := dc_54 (a := 4) (by decide +kernel)
theorem dX35_paragraphLine_23 : decode cX35_paragraphLine 23 = .ok (.iload_n 2, 1) := dc_28 (by decide +kernel)
theorem dX35_paragraphLine_24 : decode cX35_paragraphLine 24 = .ok (.ifCond .le 25, 3) := dc_158 (a := 0) (b := 25) (v := 25) (by decide +kernel)
theorem dX35_paragraphLine_27 : decode cX35_paragraphLine 27 = .ok (.aload_n 0, 1) := dc_42 (by decide +kernel)
theorem dX35_paragraphLine_28 : decode cX35_paragraphLine 28 = .ok (.getfield 148, 3) := dc_180 (a := 0) (b := 148) (n := 148) (by decide +kernel)
theorem dX35_paragraphLine_31 : decode cX35_paragraphLine 31 = .ok (.bipush 6, 2) := dc_16 (a := 6) (v := 6) (by decide +kernel)
theorem dX35_paragraphLine_33 : decode cX35_paragraphLine 33 = .ok (.iload_n 2, 1) := dc_28 (by decide +kernel)
theorem dX35_paragraphLine_34 : decode cX35_paragraphLine 34 = .ok (.imul, 1) := dc_104 (by decide +kernel)
theorem dX35_paragraphLine_35 : decode cX35_paragraphLine 35 = .ok (.bipush 6, 2) := dc_16 (a := 6) (v := 6) (by decide +kernel)
theorem dX35_paragraphLine_37 : decode cX35_paragraphLine 37 = .ok (.isub, 1) := dc_100 (by decide +kernel)
theorem dX35_paragraphLine_38 : decode cX35_paragraphLine 38 = .ok (.iaload, 1) := dc_46 (by decide +kernel)
theorem dX35_paragraphLine_39 : decode cX35_paragraphLine 39 = .ok (.iconst 2, 1) := dc_5 (by decide +kernel)
theorem dX35_paragraphLine_40 : decode cX35_paragraphLine 40 = .ok (.if_icmp .ne 9, 3) := dc_160 (a := 0) (b := 9) (v := 9) (by decide +kernel)
theorem dX35_paragraphLine_43 : decode cX35_paragraphLine 43 = .ok (.iload_n 2, 1) := dc_28 (by decide +kernel)
theorem dX35_paragraphLine_44 : decode cX35_paragraphLine 44 = .ok (.iconst 1, 1) := dc_4 (by decide +kernel)
theorem dX35_paragraphLine_45 : decode cX35_paragraphLine 45 = .ok (.isub, 1) := dc_100 (by decide +kernel)
theorem dX35_paragraphLine_46 : decode cX35_paragraphLine 46 = .ok (.goto 4, 3) := dc_167 (a := 0) (b := 4) (v := 4) (by decide +kernel)
theorem dX35_paragraphLine_49 : decode cX35_paragraphLine 49 = .ok (.iload_n 2, 1) := dc_28 (by decide +kernel)
theorem dX35_paragraphLine_50 : decode cX35_paragraphLine 50 = .ok (.istore 5, 2) := dc_54 (a := 5) (by decide +kernel)
theorem dX35_paragraphLine_52 : decode cX35_paragraphLine 52 = .ok (.aload_n 0, 1) := dc_42 (by decide +kernel)
theorem dX35_paragraphLine_53 : decode cX35_paragraphLine 53 = .ok (.getfield 35, 3) := dc_180 (a := 0) (b := 35) (n := 35) (by decide +kernel)
theorem dX35_paragraphLine_56 : decode cX35_paragraphLine 56 = .ok (.getfield 945, 3) := dc_180 (a := 3) (b := 177) (n := 945) (by decide +kernel)
theorem dX35_paragraphLine_59 : decode cX35_paragraphLine 59 = .ok (.iload_n 1, 1) := dc_27 (by decide +kernel)
theorem dX35_paragraphLine_60 : decode cX35_paragraphLine 60 = .ok (.iaload, 1) := dc_46 (by decide +kernel)
theorem dX35_paragraphLine_61 : decode cX35_paragraphLine 61 = .ok (.istore 6, 2) := dc_54 (a := 6) (by decide +kernel)
theorem dX35_paragraphLine_63 : decode cX35_paragraphLine 63 = .ok (.iload 6, 2) := dc_21 (a := 6) (by decide +kernel)
theorem dX35_paragraphLine_65 : decode cX35_paragraphLine 65 = .ok (.iload 4, 2) := dc_21 (a := 4) (by decide +kernel)
theorem dX35_paragraphLine_67 : decode cX35_paragraphLine 67 = .ok (.if_icmp .ge 143, 3) := dc_162 (a := 0) (b := 143) (v := 143) (by decide +kernel)
theorem dX35_paragraphLine_70 : decode cX35_paragraphLine 70 = .ok (.iload 6, 2) := dc_21 (a := 6) (by decide +kernel)
theorem dX35_paragraphLine_72 : decode cX35_paragraphLine 72 = .ok (.iload 5, 2) := dc_21 (a := 5) (by decide +kernel)
theorem dX35_paragraphLine_74 : decode cX35_paragraphLine 74 = .ok (.if_icmp .ge 16, 3) := dc_162 (a := 0) (b := 16) (v := 16) (by decide +kernel)
theorem dX35_paragraphLine_77 : decode cX35_paragraphLine 77 = .ok (.aload_n 0, 1) := dc_42 (by decide +kernel)
theorem dX35_paragraphLine_78 : decode cX35_paragraphLine 78 = .ok (.getfield 148, 3) := dc_180 (a := 0) (b := 148) (n := 148) (by decide +kernel)
theorem dX35_paragraphLine_81 : decode cX35_paragraphLine 81 = .ok (.bipush 6, 2) := dc_16 (a := 6) (v := 6) (by decide +kernel)
theorem dX35_paragraphLine_83 : decode cX35_paragraphLine 83 = .ok (.iload 6, 2) := dc_21 (a := 6) (by decide +kernel)
theorem dX35_paragraphLine_85 : decode cX35_paragraphLine 85 = .ok (.imul, 1) := dc_104 (by decide +kernel)
theorem dX35_paragraphLine_86 : decode cX35_paragraphLine 86 = .ok (.iaload, 1) := dc_46 (by decide +kernel)
theorem dX35_paragraphLine_87 : decode cX35_paragraphLine 87 = .ok (.goto 17, 3) := dc_167 (a := 0) (b := 17) (v := 17) (by decide +kernel)
theorem dX35_paragraphLine_90 : decode cX35_paragraphLine 90 = .ok (.iload 6, 2) := dc_21 (a := 6) (by decide +kernel)
theorem dX35_paragraphLine_92 : decode cX35_paragraphLine 92 = .ok (.iload 5, 2) := dc_21 (a := 5) (by decide +kernel)
theorem dX35_paragraphLine_94 : decode cX35_paragraphLine 94 = .ok (.iconst 1, 1) := dc_4 (by decide +kernel)
theorem dX35_paragraphLine_95 : decode cX35_paragraphLine 95 = .ok (.iadd, 1) := dc_96 (by decide +kernel)
theorem dX35_paragraphLine_96 : decode cX35_paragraphLine 96 = .ok (.if_icmp .ne 7, 3) := dc_160 (a := 0) (b := 7) (v := 7) (by decide +kernel)
theorem dX35_paragraphLine_99 : decode cX35_paragraphLine 99 = .ok (.iconst 2, 1) := dc_5 (by decide +kernel)
theorem dX35_paragraphLine_100 : decode cX35_paragraphLine 100 = .ok (.goto 4, 3) := dc_167 (a := 0) (b := 4) (v := 4) (by decide +kernel)
theorem dX35_paragraphLine_103 : decode cX35_paragraphLine 103 = .ok (.iconst 4, 1) := dc_7 (by decide +kernel)
theorem dX35_paragraphLine_104 : decode cX35_paragraphLine 104 = .ok (.istore 7, 2) := dc_54 (a := 7) (by decide +kernel)
theorem dX35_paragraphLine_106 : decode cX35_paragraphLine 106 = .ok (.iload 6, 2) := dc_21 (a := 6) (by decide +kernel)
theorem dX35_paragraphLine_108 : decode cX35_paragraphLine 108 = .ok (.iload 5, 2) := dc_21 (a := 5) (by decide +kernel)
theorem dX35_paragraphLine_110 : decode cX35_paragraphLine 110 = .ok (.iconst 1, 1) := dc_4 (by decide +kernel)
theorem dX35_paragraphLine_111 : decode cX35_paragraphLine 111 = .ok (.iadd, 1) := dc_96 (by decide +kernel)
theorem dX35_paragraphLine_112 : decode cX35_paragraphLine 112 = .ok (.if_icmp .ne 13, 3) := dc_160 (a := 0) (b := 13) (v := 13) (by decide +kernel)
theorem dX35_paragraphLine_115 : decode cX35_paragraphLine 115 = .ok (.aload_n 0, 1) := dc_42 (by decide +kernel)
theorem dX35_paragraphLine_116 : decode cX35_paragraphLine 116 = .ok (.sipush 262, 3) := dc_17 (a := 1) (b := 6) (v := 262) (by decide +kernel)
theorem dX35_paragraphLine_119 : decode cX35_paragraphLine 119 = .ok (.invokevirtual 942, 3) := dc_182 (a := 3) (b := 174) (n := 942) (by decide +kernel)
theorem dX35_paragraphLine_122 : decode cX35_paragraphLine 122 = .ok (.goto 82, 3) := dc_167 (a := 0) (b := 82) (v := 82) (by decide +kernel)
theorem dX35_paragraphLine_125 : decode cX35_paragraphLine 125 = .ok (.iload 7, 2) := dc_21 (a := 7) (by decide +kernel)
theorem dX35_paragraphLine_127 : decode cX35_paragraphLine 127 = .ok (.iconst 4, 1) := dc_7 (by decide +kernel)
theorem dX35_paragraphLine_128 : decode cX35_paragraphLine 128 = .ok (.if_icmp .eq 76, 3) := dc_159 (a := 0) (b := 76) (v := 76) (by decide +kernel)
theorem dX35_paragraphLine_131 : decode cX35_paragraphLine 131 = .ok (.iload 7, 2) := dc_21 (a := 7) (by decide +kernel)
theorem dX35_paragraphLine_133 : decode cX35_paragraphLine 133 = .ok (.bipush 6, 2) := dc_16 (a := 6) (v := 6) (by decide +kernel)
theorem dX35_paragraphLine_135 : decode cX35_paragraphLine 135 = .ok (.if_icmp .eq 69, 3) := dc_159 (a := 0) (b := 69) (v := 69) (by decide +kernel)
theorem dX35_paragraphLine_138 : decode cX35_paragraphLine 138 = .ok (.aload_n 0, 1) := dc_42 (by decide +kernel)
theorem dX35_paragraphLine_139 : decode cX35_paragraphLine 139 = .ok (.iload 7, 2) := dc_21 (a := 7) (by decide +kernel)
theorem dX35_paragraphLine_141 : decode cX35_paragraphLine 141 = .ok (.aload_n 0, 1) := dc_42 (by decide +kernel)
theorem dX35_paragraphLine_142 : decode cX35_paragraphLine 142 = .ok (.getfield 148, 3) := dc_180 (a := 0) (b := 148) (n := 148) (by decide +kernel)
theorem dX35_paragraphLine_145 : decode cX35_paragraphLine 145 = .ok (.bipush 6, 2) := dc_16 (a := 6) (v := 6) (by decide +kernel)
theorem dX35_paragraphLine_147 : decode cX35_paragraphLine 147 = .ok (.iload 6, 2) := dc_21 (a := 6) (by decide +kernel)
theorem dX35_paragraphLine_149 : decode cX35_paragraphLine 149 = .ok (.imul, 1) := dc_104 (by decide +kernel)
theorem dX35_paragraphLine_150 : decode cX35_paragraphLine 150 = .ok (.iconst 1, 1) := dc_4 (by decide +kernel)
theorem dX35_paragraphLine_151 : decode cX35_paragraphLine 151 = .ok (.iadd, 1) := dc_96 (by decide +kernel)
theorem dX35_paragraphLine_152 : decode cX35_paragraphLine 152 = .ok (.iaload, 1) := dc_46 (by decide +kernel)
theorem dX35_paragraphLine_153 : decode cX35_paragraphLine 153 = .ok (.aload_n 0, 1) := dc_42 (by decide +kernel)
theorem dX35_paragraphLine_154 : decode cX35_paragraphLine 154 = .ok (.getfield 148, 3) := dc_180 (a := 0) (b := 148) (n := 148) (by decide +kernel)
theorem dX35_paragraphLine_157 : decode cX35_paragraphLine 157 = .ok (.bipush 6, 2) := dc_16 (a := 6) (v := 6) (by decide +kernel)
theorem dX35_paragraphLine_159 : decode cX35_paragraphLine 159 = .ok (.iload 6, 2) := dc_21 (a := 6) (by decide +kernel)
theorem dX35_paragraphLine_161 : decode cX35_paragraphLine 161 = .ok (.imul, 1) := dc_104 (by decide +kernel)
theorem dX35_paragraphLine_162 : decode cX35_paragraphLine 162 = .ok (.iconst 2, 1) := dc_5 (by decide +kernel)
theorem dX35_paragraphLine_163 : decode cX35_paragraphLine 163 = .ok (.iadd, 1) := dc_96 (by decide +kernel)
theorem dX35_paragraphLine_164 : decode cX35_paragraphLine 164 = .ok (.iaload, 1) := dc_46 (by decide +kernel)
theorem dX35_paragraphLine_165 : decode cX35_paragraphLine 165 = .ok (.aload_n 0, 1) := dc_42 (by decide +kernel)
theorem dX35_paragraphLine_166 : decode cX35_paragraphLine 166 = .ok (.getfield 148, 3) := dc_180 (a := 0) (b := 148) (n := 148) (by decide +kernel)
theorem dX35_paragraphLine_169 : decode cX35_paragraphLine 169 = .ok (.bipush 6, 2) := dc_16 (a := 6) (v := 6) (by decide +kernel)
theorem dX35_paragraphLine_171 : decode cX35_paragraphLine 171 = .ok (.iload 6, 2) := dc_21 (a := 6) (by decide +kernel)
theorem dX35_paragraphLine_173 : decode cX35_paragraphLine 173 = .ok (.imul, 1) := dc_104 (by decide +kernel)
theorem dX35_paragraphLine_174 : decode cX35_paragraphLine 174 = .ok (.iconst 3, 1) := dc_6 (by decide +kernel)
theorem dX35_paragraphLine_175 : decode cX35_paragraphLine 175 = .ok (.iadd, 1) := dc_96 (by decide +kernel)
theorem dX35_paragraphLine_176 : decode cX35_paragraphLine 176 = .ok (.iaload, 1) := dc_46 (by decide +kernel)
theorem dX35_paragraphLine_177 : decode cX35_paragraphLine 177 = .ok (.aload_n 0, 1) := dc_42 (by decide +kernel)
theorem dX35_paragraphLine_178 : decode cX35_paragraphLine 178 = .ok (.getfield 148, 3) := dc_180 (a := 0) (b := 148) (n := 148) (by decide +kernel)
theorem dX35_paragraphLine_181 : decode cX35_paragraphLine 181 = .ok (.bipush 6, 2) := dc_16 (a := 6) (v := 6) (by decide +kernel)
theorem dX35_paragraphLine_183 : decode cX35_paragraphLine 183 = .ok (.iload 6, 2) := dc_21 (a := 6) (by decide +kernel)
theorem dX35_paragraphLine_185 : decode cX35_paragraphLine 185 = .ok (.imul, 1) := dc_104 (by decide +kernel)
theorem dX35_paragraphLine_186 : decode cX35_paragraphLine 186 = .ok (.iconst 4, 1) := dc_7 (by decide +kernel)
theorem dX35_paragraphLine_187 : decode cX35_paragraphLine 187 = .ok (.iadd, 1) := dc_96 (by decide +kernel)
theorem dX35_paragraphLine_188 : decode cX35_paragraphLine 188 = .ok (.iaload, 1) := dc_46 (by decide +kernel)
theorem dX35_paragraphLine_189 : decode cX35_paragraphLine 189 = .ok (.aload_n 0, 1) := dc_42 (by decide +kernel)
theorem dX35_paragraphLine_190 : decode cX35_paragraphLine 190 = .ok (.getfield 148, 3) := dc_180 (a := 0) (b := 148) (n := 148) (by decide +kernel)
theorem dX35_paragraphLine_193 : decode cX35_paragraphLine 193 = .ok (.bipush 6, 2) := dc_16 (a := 6) (v := 6) (by decide +kernel)
theorem dX35_paragraphLine_195 : decode cX35_paragraphLine 195 = .ok (.iload 6, 2) := dc_21 (a := 6) (by decide +kernel)
theorem dX35_paragraphLine_197 : decode cX35_paragraphLine 197 = .ok (.imul, 1) := dc_104 (by decide +kernel)
theorem dX35_paragraphLine_198 : decode cX35_paragraphLine 198 = .ok (.iconst 5, 1) := dc_8 (by decide +kernel)
theorem dX35_paragraphLine_199 : decode cX35_paragraphLine 199 = .ok (.iadd, 1) := dc_96 (by decide +kernel)
theorem dX35_paragraphLine_200 : decode cX35_paragraphLine 200 = .ok (.iaload, 1) := dc_46 (by decide +kernel)
theorem dX35_paragraphLine_201 : decode cX35_paragraphLine 201 = .ok (.invokevirtual 939, 3) := dc_182 (a := 3) (b := 171) (n := 939) (by decide +kernel)
theorem dX35_paragraphLine_204 : decode cX35_paragraphLine 204 = .ok (.iinc 6 1, 3) := dc_132 (a := 6) (b := 1) (v := 1) (by decide +kernel)
theorem dX35_paragraphLine_207 : decode cX35_paragraphLine 207 = .ok (.goto (-144), 3) := dc_167 (a := 255) (b := 112) (v := -144) (by decide +kernel)
theorem dX35_paragraphLine_210 : decode cX35_paragraphLine 210 = .ok (.iload 4, 2) := dc_21 (a := 4) (by decide +kernel)
theorem dX35_paragraphLine_212 : decode cX35_paragraphLine 212 = .ok (.iload 5, 2) := dc_21 (a := 5) (by decide +kernel)
theorem dX35_paragraphLine_214 : decode cX35_paragraphLine 214 = .ok (.if_icmp .ge 22, 3) := dc_162 (a := 0) (b := 22) (v := 22) (by decide +kernel)
theorem dX35_paragraphLine_217 : decode cX35_paragraphLine 217 = .ok (.aload_n 0, 1) := dc_42 (by decide +kernel)
theorem dX35_paragraphLine_218 : decode cX35_paragraphLine 218 = .ok (.getfield 148, 3) := dc_180 (a := 0) (b := 148) (n := 148) (by decide +kernel)
theorem dX35_paragraphLine_221 : decode cX35_paragraphLine 221 = .ok (.bipush 6, 2) := dc_16 (a := 6) (v := 6) (by decide +kernel)
theorem dX35_paragraphLine_223 : decode cX35_paragraphLine 223 = .ok (.iload 4, 2) := dc_21 (a := 4) (by decide +kernel)
theorem dX35_paragraphLine_225 : decode cX35_paragraphLine 225 = .ok (.imul, 1) := dc_104 (by decide +kernel)
theorem dX35_paragraphLine_226 : decode cX35_paragraphLine 226 = .ok (.iaload, 1) := dc_46 (by decide +kernel)
theorem dX35_paragraphLine_227 : decode cX35_paragraphLine 227 = .ok (.bipush 6, 2) := dc_16 (a := 6) (v := 6) (by decide +kernel)
theorem dX35_paragraphLine_229 : decode cX35_paragraphLine 229 = .ok (.if_icmp .ne 7, 3) := dc_160 (a := 0) (b := 7) (v := 7) (by decide +kernel)
theorem dX35_paragraphLine_232 : decode cX35_paragraphLine 232 = .ok (.iconst 1, 1) := dc_4 (by decide +kernel)
theorem dX35_paragraphLine_233 : decode cX35_paragraphLine 233 = .ok (.goto 4, 3) := dc_167 (a := 0) (b := 4) (v := 4) (by decide +kernel)
theorem dX35_paragraphLine_236 : decode cX35_paragraphLine 236 = .ok (.iconst 0, 1) := dc_3 (by decide +kernel)
theorem dX35_paragraphLine_237 : decode cX35_paragraphLine 237 = .ok (.istore 6, 2) := dc_54 (a := 6) (by decide +kernel)
theorem dX35_paragraphLine_239 : decode cX35_paragraphLine 239 = .ok (.iload 6, 2) := dc_21 (a := 6) (by decide +kernel)
theorem dX35_paragraphLine_241 : decode cX35_paragraphLine 241 = .ok (.ifCond .eq 98, 3) := dc_153 (a := 0) (b := 98) (v := 98) (by decide +kernel)
theorem dX35_paragraphLine_244 : decode cX35_paragraphLine 244 = .ok (.aload_n 0, 1) := dc_42 (by decide +kernel)
theorem dX35_paragraphLine_245 : decode cX35_paragraphLine 245 = .ok (.getfield 148, 3) := dc_180 (a := 0) (b := 148) (n := 148) (by decide +kernel)
theorem dX35_paragraphLine_248 : decode cX35_paragraphLine 248 = .ok (.bipush 6, 2) := dc_16 (a := 6) (v := 6) (by decide +kernel)
theorem dX35_paragraphLine_250 : decode cX35_paragraphLine 250 = .ok (.iload 4, 2) := dc_21 (a := 4) (by decide +kernel)
theorem dX35_paragraphLine_252 : decode cX35_paragraphLine 252 = .ok (.imul, 1) := dc_104 (by decide +kernel)
theorem dX35_paragraphLine_253 : decode cX35_paragraphLine 253 = .ok (.iconst 1, 1) := dc_4 (by decide +kernel)
theorem dX35_paragraphLine_254 : decode cX35_paragraphLine 254 = .ok (.iadd, 1) := dc_96 (by decide +kernel)
theorem dX35_paragraphLine_255 : decode cX35_paragraphLine 255 = .ok (.iaload, 1) := dc_46 (by decide +kernel)
theorem dX35_paragraphLine_256 : decode cX35_paragraphLine 256 = .ok (.ifCond .lt 83, 3) := dc_155 (a := 0) (b := 83) (v := 83) (by decide +kernel)
theorem dX35_paragraphLine_259 : decode cX35_paragraphLine 259 = .ok (.aload_n 0, 1) := dc_42 (by decide +kernel)
theorem dX35_paragraphLine_260 : decode cX35_paragraphLine 260 = .ok (.getfield 148, 3) := dc_180 (a := 0) (b := 148) (n := 148) (by decide +kernel)
theorem dX35_paragraphLine_263 : decode cX35_paragraphLine 263 = .ok (.bipush 6, 2) := dc_16 (a := 6) (v := 6) (by decide +kernel)
theorem dX35_paragraphLine_265 : decode cX35_paragraphLine 265 = .ok (.iload 4, 2) := dc_21 (a := 4) (by decide +kernel)
theorem dX35_paragraphLine_267 : decode cX35_paragraphLine 267 = .ok (.imul, 1) := dc_104 (by decide +kernel)
theorem dX35_paragraphLine_268 : decode cX35_paragraphLine 268 = .ok (.iconst 1, 1) := dc_4 (by decide +kernel)
theorem dX35_paragraphLine_269 : decode cX35_paragraphLine 269 = .ok (.iadd, 1) := dc_96 (by decide +kernel)
theorem dX35_paragraphLine_270 : decode cX35_paragraphLine 270 = .ok (.iaload, 1) := dc_46 (by decide +kernel)
theorem dX35_paragraphLine_271 : decode cX35_paragraphLine 271 = .ok (.istore 7, 2) := dc_54 (a := 7) (by decide +kernel)
theorem dX35_paragraphLine_273 : decode cX35_paragraphLine 273 = .ok (.aload_n 0, 1) := dc_42 (by decide +kernel)
theorem dX35_paragraphLine_274 : decode cX35_paragraphLine 274 = .ok (.iconst 0, 1) := dc_3 (by decide +kernel)
theorem dX35_paragraphLine_275 : decode cX35_paragraphLine 275 = .ok (.iload 7, 2) := dc_21 (a := 7) (by decide +kernel)
theorem dX35_paragraphLine_277 : decode cX35_paragraphLine 277 = .ok (.bipush 45, 2) := dc_16 (a := 45) (v := 45) (by decide +kernel)
theorem dX35_paragraphLine_279 : decode cX35_paragraphLine 279 = .ok (.aload_n 0, 1) := dc_42 (by decide +kernel)
theorem dX35_paragraphLine_280 : decode cX35_paragraphLine 280 = .ok (.iload 7, 2) := dc_21 (a := 7) (by decide +kernel)
theorem dX35_paragraphLine_282 : decode cX35_paragraphLine 282 = .ok (.invokevirtual 817, 3) := dc_182 (a := 3) (b := 49) (n := 817) (by decide +kernel)
theorem dX35_paragraphLine_285 : decode cX35_paragraphLine 285 = .ok (.bipush 45, 2) := dc_16 (a := 45) (v := 45) (by decide +kernel)
theorem dX35_paragraphLine_287 : decode cX35_paragraphLine 287 = .ok (.iconst 0, 1) := dc_3 (by decide +kernel)
theorem dX35_paragraphLine_288 : decode cX35_paragraphLine 288 = .ok (.aload_n 0, 1) := dc_42 (by decide +kernel)
theorem dX35_paragraphLine_289 : decode cX35_paragraphLine 289 = .ok (.getfield 124, 3) := dc_180 (a := 0) (b := 124) (n := 124) (by decide +kernel)
theorem dX35_paragraphLine_292 : decode cX35_paragraphLine 292 = .ok (.iload 7, 2) := dc_21 (a := 7) (by decide +kernel)
theorem dX35_paragraphLine_294 : decode cX35_paragraphLine 294 = .ok (.iaload, 1) := dc_46 (by decide +kernel)
theorem dX35_paragraphLine_295 : decode cX35_paragraphLine 295 = .ok (.invokevirtual 821, 3) := dc_182 (a := 3) (b := 53) (n := 821) (by decide +kernel)
theorem dX35_paragraphLine_298 : decode cX35_paragraphLine 298 = .ok (.aload_n 0, 1) := dc_42 (by decide +kernel)
theorem dX35_paragraphLine_299 : decode cX35_paragraphLine 299 = .ok (.iload 7, 2) := dc_21 (a := 7) (by decide +kernel)
theorem dX35_paragraphLine_301 : decode cX35_paragraphLine 301 = .ok (.invokevirtual 817, 3) := dc_182 (a := 3) (b := 49) (n := 817) (by decide +kernel)
theorem dX35_paragraphLine_304 : decode cX35_paragraphLine 304 = .ok (.bipush 45, 2) := dc_16 (a := 45) (v := 45) (by decide +kernel)
theorem dX35_paragraphLine_306 : decode cX35_paragraphLine 306 = .ok (.iconst 1, 1) := dc_4 (by decide +kernel)
theorem dX35_paragraphLine_307 : decode cX35_paragraphLine 307 = .ok (.aload_n 0, 1) := dc_42 (by decide +kernel)
theorem dX35_paragraphLine_308 : decode cX35_paragraphLine 308 = .ok (.getfield 124, 3) := dc_180 (a := 0) (b := 124) (n := 124) (by decide +kernel)
theorem dX35_paragraphLine_311 : decode cX35_paragraphLine 311 = .ok (.iload 7, 2) := dc_21 (a := 7) (by decide +kernel)
theorem dX35_paragraphLine_313 : decode cX35_paragraphLine 313 = .ok (.iaload, 1) := dc_46 (by decide +kernel)
theorem dX35_paragraphLine_314 : decode cX35_paragraphLine 314 = .ok (.invokevirtual 821, 3) := dc_182 (a := 3) (b := 53) (n := 821) (by decide +kernel)
theorem dX35_paragraphLine_317 : decode cX35_paragraphLine 317 = .ok (.aload_n 0, 1) := dc_42 (by decide +kernel)
theorem dX35_paragraphLine_318 : decode cX35_paragraphLine 318 = .ok (.iload 7, 2) := dc_21 (a := 7) (by decide +kernel)
theorem dX35_paragraphLine_320 : decode cX35_paragraphLine 320 = .ok (.invokevirtual 817, 3) := dc_182 (a := 3) (b := 49) (n := 817) (by decide +kernel)
theorem dX35_paragraphLine_323 : decode cX35_paragraphLine 323 = .ok (.bipush 45, 2) := dc_16 (a := 45) (v := 45) (by decide +kernel)
theorem dX35_paragraphLine_325 : decode cX35_paragraphLine 325 = .ok (.iconst 2, 1) := dc_5 (by decide +kernel)
theorem dX35_paragraphLine_326 : decode cX35_paragraphLine 326 = .ok (.aload_n 0, 1) := dc_42 (by decide +kernel)
theorem dX35_paragraphLine_327 : decode cX35_paragraphLine 327 = .ok (.getfield 124, 3) := dc_180 (a := 0) (b := 124) (n := 124) (by decide +kernel)
theorem dX35_paragraphLine_330 : decode cX35_paragraphLine 330 = .ok (.iload 7, 2) := dc_21 (a := 7) (by decide +kernel)
theorem dX35_paragraphLine_332 : decode cX35_paragraphLine 332 = .ok (.iaload, 1) := dc_46 (by decide +kernel)
theorem dX35_paragraphLine_333 : decode cX35_paragraphLine 333 = .ok (.invokevirtual 821, 3) := dc_182 (a := 3) (b := 53) (n := 821) (by decide +kernel)
theorem dX35_paragraphLine_336 : decode cX35_paragraphLine 336 = .ok (.invokevirtual 939, 3) := dc_182 (a := 3) (b := 171) (n := 939) (by decide +kernel)
theorem dX35_paragraphLine_339 : decode cX35_paragraphLine 339 = .ok (.aload_n 0, 1) := dc_42 (by decide +kernel)
theorem dX35_paragraphLine_340 : decode cX35_paragraphLine 340 = .ok (.sipush 261, 3) := dc_17 (a := 1) (b := 5) (v := 261) (by decide +kernel)
theorem dX35_paragraphLine_343 : decode cX35_paragraphLine 343 = .ok (.invokevirtual 942, 3) := dc_182 (a := 3) (b := 174) (n := 942) (by decide +kernel)
theorem dX35_paragraphLine_346 : decode cX35_paragraphLine 346 = .ok (.aload_n 0, 1) := dc_42 (by decide +kernel)
theorem dX35_paragraphLine_347 : decode cX35_paragraphLine 347 = .ok (.aload_n 0, 1) := dc_42 (by decide +kernel)
theorem dX35_paragraphLine_348 : decode cX35_paragraphLine 348 = .ok (.getfield 246, 3) := dc_180 (a := 0) (b := 246) (n := 246) (by decide +kernel)
theorem dX35_paragraphLine_351 : decode cX35_paragraphLine 351 = .ok (.iconst 0, 1) := dc_3 (by decide +kernel)
theorem dX35_paragraphLine_352 : decode cX35_paragraphLine 352 = .ok (.aload_n 0, 1) := dc_42 (by decide +kernel)
theorem dX35_paragraphLine_353 : decode cX35_paragraphLine 353 = .ok (.getfield 936, 3) := dc_180 (a := 3) (b := 168) (n := 936) (by decide +kernel)
theorem dX35_paragraphLine_356 : decode cX35_paragraphLine 356 = .ok (.iconst 0, 1) := dc_3 (by decide +kernel)
theorem dX35_paragraphLine_357 : decode cX35_paragraphLine 357 = .ok (.iconst 1, 1) := dc_4 (by decide +kernel)
theorem dX35_paragraphLine_358 : decode cX35_paragraphLine 358 = .ok (.aload_n 0, 1) := dc_42 (by decide +kernel)
theorem dX35_paragraphLine_359 : decode cX35_paragraphLine 359 = .ok (.sipush 2241, 3) := dc_17 (a := 8) (b := 193) (v := 2241) (by decide +kernel)
theorem dX35_paragraphLine_362 : decode cX35_paragraphLine 362 = .ok (.invokevirtual 431, 3) := dc_182 (a := 1) (b := 175) (n := 431) (by decide +kernel)
theorem dX35_paragraphLine_365 : decode cX35_paragraphLine 365 = .ok (.invokevirtual 879, 3) := dc_182 (a := 3) (b := 111) (n := 879) (by decide +kernel)
theorem dX35_paragraphLine_368 : decode cX35_paragraphLine 368 = .ok (.istore 7, 2) := dc_54 (a := 7) (by decide +kernel)
theorem dX35_paragraphLine_370 : decode cX35_paragraphLine 370 = .ok (.aload_n 0, 1) := dc_42 (by decide +kernel)
theorem dX35_paragraphLine_371 : decode cX35_paragraphLine 371 = .ok (.getfield 321, 3) := dc_180 (a := 1) (b := 65) (n := 321) (by decide +kernel)
theorem dX35_paragraphLine_374 : decode cX35_paragraphLine 374 = .ok (.ifCond .le 4, 3) := dc_158 (a := 0) (b := 4) (v := 4) (by decide +kernel)
theorem dX35_paragraphLine_377 : decode cX35_paragraphLine 377 = .ok (.return_, 1) := dc_177 (by decide +kernel)
theorem dX35_paragraphLine_378 : decode cX35_paragraphLine 378 = .ok (.aload_n 0, 1) := dc_42 (by decide +kernel)
theorem dX35_paragraphLine_379 : decode cX35_paragraphLine 379 = .ok (.iload 7, 2) := dc_21 (a := 7) (by decide +kernel)
theorem dX35_paragraphLine_381 : decode cX35_paragraphLine 381 = .ok (.iconst 0, 1) := dc_3 (by decide +kernel)
theorem dX35_paragraphLine_382 : decode cX35_paragraphLine 382 = .ok (.invokevirtual 883, 3) := dc_182 (a := 3) (b := 115) (n := 883) (by decide +kernel)
theorem dX35_paragraphLine_385 : decode cX35_paragraphLine 385 = .ok (.aload_n 0, 1) := dc_42 (by decide +kernel)
theorem dX35_paragraphLine_386 : decode cX35_paragraphLine 386 = .ok (.getfield 321, 3) := dc_180 (a := 1) (b := 65) (n := 321) (by decide +kernel)
theorem dX35_paragraphLine_389 : decode cX35_paragraphLine 389 = .ok (.ifCond .ne 103, 3) := dc_154 (a := 0) (b := 103) (v := 103) (by decide +kernel)
theorem dX35_paragraphLine_392 : decode cX35_paragraphLine 392 = .ok (.iload_n 1, 1) := dc_27 (by decide +kernel)
theorem dX35_paragraphLine_393 : decode cX35_paragraphLine 393 = .ok (.iload_n 3, 1) := dc_29 (by decide +kernel)
theorem dX35_paragraphLine_394 : decode cX35_paragraphLine 394 = .ok (.iconst 1, 1) := dc_4 (by decide +kernel)
theorem dX35_paragraphLine_395 : decode cX35_paragraphLine 395 = .ok (.isub, 1) := dc_100 (by decide +kernel)
theorem dX35_paragraphLine_396 : decode cX35_paragraphLine 396 = .ok (.if_icmp .ge 96, 3) := dc_162 (a := 0) (b := 96) (v := 96) (by decide +kernel)
theorem dX35_paragraphLine_399 : decode cX35_paragraphLine 399 = .ok (.aload_n 0, 1) := dc_42 (by decide +kernel)
theorem dX35_paragraphLine_400 : decode cX35_paragraphLine 400 = .ok (.sipush 264, 3) := dc_17 (a := 1) (b := 8) (v := 264) (by decide +kernel)
theorem dX35_paragraphLine_403 : decode cX35_paragraphLine 403 = .ok (.invokevirtual 907, 3) := dc_182 (a := 3) (b := 139) (n := 907) (by decide +kernel)
theorem dX35_paragraphLine_406 : decode cX35_paragraphLine 406 = .ok (.i2l, 1) := dc_133 (by decide +kernel)
theorem dX35_paragraphLine_407 : decode cX35_paragraphLine 407 = .ok (.lstore 8, 2) := dc_55 (a := 8) (by decide +kernel)
theorem dX35_paragraphLine_409 : decode cX35_paragraphLine 409 = .ok (.iload_n 1, 1) := dc_27 (by decide +kernel)
theorem dX35_paragraphLine_410 : decode cX35_paragraphLine 410 = .ok (.ifCond .ne 17, 3) := dc_154 (a := 0) (b := 17) (v := 17) (by decide +kernel)
theorem dX35_paragraphLine_413 : decode cX35_paragraphLine 413 = .ok (.lload 8, 2) := dc_22 (a := 8) (by decide +kernel)
theorem dX35_paragraphLine_415 : decode cX35_paragraphLine 415 = .ok (.aload_n 0, 1) := dc_42 (by decide +kernel)
theorem dX35_paragraphLine_416 : decode cX35_paragraphLine 416 = .ok (.sipush 261, 3) := dc_17 (a := 1) (b := 5) (v := 261) (by decide +kernel)
theorem dX35_paragraphLine_419 : decode cX35_paragraphLine 419 = .ok (.invokevirtual 907, 3) := dc_182 (a := 3) (b := 139) (n := 907) (by decide +kernel)
theorem dX35_paragraphLine_422 : decode cX35_paragraphLine 422 = .ok (.i2l, 1) := dc_133 (by decide +kernel)
theorem dX35_paragraphLine_423 : decode cX35_paragraphLine 423 = .ok (.ladd, 1) := dc_97 (by decide +kernel)
theorem dX35_paragraphLine_424 : decode cX35_paragraphLine 424 = .ok (.goto 5, 3) := dc_167 (a := 0) (b := 5) (v := 5) (by decide +kernel)
theorem dX35_paragraphLine_427 : decode cX35_paragraphLine 427 = .ok (.lload 8, 2) := dc_22 (a := 8) (by decide +kernel)
theorem dX35_paragraphLine_429 : decode cX35_paragraphLine 429 = .ok (.lstore 8, 2) := dc_55 (a := 8) (by decide +kernel)
theorem dX35_paragraphLine_431 : decode cX35_paragraphLine 431 = .ok (.iload_n 1, 1) := dc_27 (by decide +kernel)
theorem dX35_paragraphLine_432 : decode cX35_paragraphLine 432 = .ok (.iload_n 3, 1) := dc_29 (by decide +kernel)
theorem dX35_paragraphLine_433 : decode cX35_paragraphLine 433 = .ok (.iconst 2, 1) := dc_5 (by decide +kernel)
theorem dX35_paragraphLine_434 : decode cX35_paragraphLine 434 = .ok (.isub, 1) := dc_100 (by decide +kernel)
theorem dX35_paragraphLine_435 : decode cX35_paragraphLine 435 = .ok (.if_icmp .ne 17, 3) := dc_160 (a := 0) (b := 17) (v := 17) (by decide +kernel)
theorem dX35_paragraphLine_438 : decode cX35_paragraphLine 438 = .ok (.lload 8, 2) := dc_22 (a := 8) (by decide +kernel)
theorem dX35_paragraphLine_440 : decode cX35_paragraphLine 440 = .ok (.aload_n 0, 1) := dc_42 (by decide +kernel)
theorem dX35_paragraphLine_441 : decode cX35_paragraphLine 441 = .ok (.sipush 262, 3) := dc_17 (a := 1) (b := 6) (v := 262) (by decide +kernel)
theorem dX35_paragraphLine_444 : decode cX35_paragraphLine 444 = .ok (.invokevirtual 907, 3) := dc_182 (a := 3) (b := 139) (n := 907) (by decide +kernel)
theorem dX35_paragraphLine_447 : decode cX35_paragraphLine 447 = .ok (.i2l, 1) := dc_133 (by decide +kernel)
theorem dX35_paragraphLine_448 : decode cX35_paragraphLine 448 = .ok (.ladd, 1) := dc_97 (by decide +kernel)
theorem dX35_paragraphLine_449 : decode cX35_paragraphLine 449 = .ok (.goto 5, 3) := dc_167 (a := 0) (b := 5) (v := 5) (by decide +kernel)
theorem dX35_paragraphLine_452 : decode cX35_paragraphLine 452 = .ok (.lload 8, 2) := dc_22 (a := 8) (by decide +kernel)
theorem dX35_paragraphLine_454 : decode cX35_paragraphLine 454 = .ok (.lstore 8, 2) := dc_55 (a := 8) (by decide +kernel)
theorem dX35_paragraphLine_456 : decode cX35_paragraphLine 456 = .ok (.iload 6, 2) := dc_21 (a := 6) (by decide +kernel)
theorem dX35_paragraphLine_458 : decode cX35_paragraphLine 458 = .ok (.ifCond .eq 17, 3) := dc_153 (a := 0) (b := 17) (v := 17) (by decide +kernel)
theorem dX35_paragraphLine_461 : decode cX35_paragraphLine 461 = .ok (.lload 8, 2) := dc_22 (a := 8) (by decide +kernel)
theorem dX35_paragraphLine_463 : decode cX35_paragraphLine 463 = .ok (.aload_n 0, 1) := dc_42 (by decide +kernel)
theorem dX35_paragraphLine_464 : decode cX35_paragraphLine 464 = .ok (.sipush 263, 3) := dc_17 (a := 1) (b := 7) (v := 263) (by decide +kernel)
theorem dX35_paragraphLine_467 : decode cX35_paragraphLine 467 = .ok (.invokevirtual 907, 3) := dc_182 (a := 3) (b := 139) (n := 907) (by decide +kernel)
theorem dX35_paragraphLine_470 : decode cX35_paragraphLine 470 = .ok (.i2l, 1) := dc_133 (by decide +kernel)
theorem dX35_paragraphLine_471 : decode cX35_paragraphLine 471 = .ok (.ladd, 1) := dc_97 (by decide +kernel)
theorem dX35_paragraphLine_472 : decode cX35_paragraphLine 472 = .ok (.goto 5, 3) := dc_167 (a := 0) (b := 5) (v := 5) (by decide +kernel)
theorem dX35_paragraphLine_475 : decode cX35_paragraphLine 475 = .ok (.lload 8, 2) := dc_22 (a := 8) (by decide +kernel)
theorem dX35_paragraphLine_477 : decode cX35_paragraphLine 477 = .ok (.lstore 8, 2) := dc_55 (a := 8) (by decide +kernel)
theorem dX35_paragraphLine_479 : decode cX35_paragraphLine 479 = .ok (.lload 8, 2) := dc_22 (a := 8) (by decide +kernel)
theorem dX35_paragraphLine_481 : decode cX35_paragraphLine 481 = .ok (.lconst 0, 1) := dc_9 (by decide +kernel)
theorem dX35_paragraphLine_482 : decode cX35_paragraphLine 482 = .ok (.lcmp, 1) := dc_148 (by decide +kernel)
theorem dX35_paragraphLine_483 : decode cX35_paragraphLine 483 = .ok (.ifCond .eq 9, 3) := dc_153 (a := 0) (b := 9) (v := 9) (by decide +kernel)
theorem dX35_paragraphLine_486 : decode cX35_paragraphLine 486 = .ok (.aload_n 0, 1) := dc_42 (by decide +kernel)
theorem dX35_paragraphLine_487 : decode cX35_paragraphLine 487 = .ok (.lload 8, 2) := dc_22 (a := 8) (by decide +kernel)
theorem dX35_paragraphLine_489 : decode cX35_paragraphLine 489 = .ok (.invokevirtual 948, 3) := dc_182 (a := 3) (b := 180) (n := 948) (by decide +kernel)
theorem dX35_paragraphLine_492 : decode cX35_paragraphLine 492 = .ok (.return_, 1) := dc_177 (by decide +kernel)
theorem GX35_930 {w : eW} {d : Nat} {Y : eY} {pc : Nat} {ls : eL} {st : List Value} {h : eH} {Q : eO → eH → Prop} {a : Nat} {x : Nat} (hf : g_A 36 h a 39 = some x) (hd : decode Y.2.1 pc = .ok (.getfield 930, 3)) (hY : Y.1.cls = RX35) (kk : wp w d Y (pc + 3) ls (.ref x :: st) h Q) : wp w d Y pc ls (.ref a :: st) h Q := x_gAN (ci := 36) (k := 39) hf hd rfl (by decide) (by rw [hY]; exact q4275) kk
theorem GX35_945 {w : eW} {d : Nat} {Y : eY} {pc : Nat} {ls : eL} {st : List Value} {h : eH} {Q : eO → eH → Prop} {a : Nat} {x : Nat} (hf : g_A 36 h a 40 = some x) (hd : decode Y.2.1 pc = .ok (.getfield 945, 3)) (hY : Y.1.cls = RX35) (kk : wp w d Y (pc + 3) ls (.ref x :: st) h Q) : wp w d Y pc ls (.ref a :: st) h Q := x_gAN (ci := 36) (k := 40) hf hd rfl (by decide) (by rw [hY]; exact q4277) kk
def fX35_paragraphLine_b204 (N : Nat) (sL : Nat → Int32 → Int64 → Int64 → eH → Option (Int32 × eH)) (k63 : Nat → Int32 → Int32 → Int32 → Int32 → Int32 → eH → Option (Unit × eH)) (l0 : Nat) (l1 : Int32) (l3 : Int32) (l4 : Int32) (l5 : Int32) (l6 : Int32) (h : eH) : Option (Unit × eH) :=
  k63 l0 l1 l3 l4 l5 (l6 + (1 : Int32)) h
theorem pX35_paragraphLine_b204 {w : eW} {d : Nat} {dr : Nat} (hd : dr + 12 ≤ d + 1) (hdr : 12 ≤ dr) {N : Nat} {sL : Nat → Int32 → Int64 → Int64 → eH → Option (Int32 × eH)} (hsL : ∀ a t0 t1 t2 h q, sL a t0 t1 t2 h = some q → wm w dr YX35_layBox [.ref a, .int t0, .long t1, .long t2] h (e_is (e_rn c_I q))) {k63 : Nat → Int32 → Int32 → Int32 → Int32 → Int32 → eH → Option (Unit × eH)} (hk63 : ∀ l0 l1 l3 l4 l5 l6 h q, k63 l0 l1 l3 l4 l5 l6 h = some q → wp w (d + 1) YX35_paragraphLine 63 [some (.ref l0), some (.int l1), none, some (.int l3), some (.int l4), some (.int l5), some (.int l6), none, none, none] [] h (e_is (e_rn c_V q))) {l0 : Nat} {l1 : Int32} {l3 : Int32} {l4 : Int32} {l5 : Int32} {l6 : Int32} {h : eH} {q} (hf : fX35_paragraphLine_b204 N sL k63 l0 l1 l3 l4 l5 l6 h = some q) : wp w (d + 1) YX35_paragraphLine 204 [some (.ref l0), some (.int l1), none, some (.int l3), some (.int l4), some (.int l5), some (.int l6), none, none, none] [] h (e_is (e_rn c_V q)) := by
  unfold fX35_paragraphLine_b204 at hf
  refine w_iinc dX35_paragraphLine_204 (v := (l6 + (1 : Int32))) rfl rfl (by decide) (ls' := [some (.ref l0), some (.int l1), none, some (.int l3), some (.int l4), some (.int l5), some (.int (l6 + (1 : Int32))), none, none, none]) rfl ?_
  refine w_goto 63 dX35_paragraphLine_207 (by decide) ?_
  exact (hk63 _ _ _ _ _ _ _ _ hf).to ⟨rfl, rfl, rfl, rfl, rfl, rfl, trivial⟩
def fX35_paragraphLine_b104 (N : Nat) (sL : Nat → Int32 → Int64 → Int64 → eH → Option (Int32 × eH)) (k63 : Nat → Int32 → Int32 → Int32 → Int32 → Int32 → eH → Option (Unit × eH)) (l0 : Nat) (l1 : Int32) (l3 : Int32) (l4 : Int32) (l5 : Int32) (l6 : Int32) (s0 : Int32) (h : eH) : Option (Unit × eH) :=
  if ¬ l6 = (l5 + (1 : Int32)) then
    if s0 = (4 : Int32) then
      fX35_paragraphLine_b204 N sL k63 l0 l1 l3 l4 l5 l6 h
    else
      if s0 = (6 : Int32) then
        fX35_paragraphLine_b204 N sL k63 l0 l1 l3 l4 l5 l6 h
      else
        (g_A 34 h l0 63).bind fun a4 =>
        (r_I 100 h a4 (((6 : Int32) * l6) + (1 : Int32))).bind fun x6 =>
        (g_A 34 h l0 63).bind fun a8 =>
        (r_I 100 h a8 (((6 : Int32) * l6) + (2 : Int32))).bind fun x10 =>
        (g_A 34 h l0 63).bind fun a12 =>
        (r_I 100 h a12 (((6 : Int32) * l6) + (3 : Int32))).bind fun x14 =>
        (g_A 34 h l0 63).bind fun a16 =>
        (r_I 100 h a16 (((6 : Int32) * l6) + (4 : Int32))).bind fun x18 =>
        (g_A 34 h l0 63).bind fun a20 =>
        (r_I 100 h a20 (((6 : Int32) * l6) + (5 : Int32))).bind fun x22 =>
        (k_ok 34 h l0).bind fun _ =>
        (fX35_lineItem l0 s0 x6 x10 x14 x18 x22 h).bind fun q25 =>
        fX35_paragraphLine_b204 N sL k63 l0 l1 l3 l4 l5 l6 q25.2
  else
    (k_ok 34 h l0).bind fun _ =>
    (fX35_lineGlue l0 (262 : Int32) h).bind fun q27 =>
    fX35_paragraphLine_b204 N sL k63 l0 l1 l3 l4 l5 l6 q27.2
theorem pX35_paragraphLine_b104 {w : eW} {d : Nat} {dr : Nat} (hd : dr + 12 ≤ d + 1) (hdr : 12 ≤ dr) {N : Nat} {sL : Nat → Int32 → Int64 → Int64 → eH → Option (Int32 × eH)} (hsL : ∀ a t0 t1 t2 h q, sL a t0 t1 t2 h = some q → wm w dr YX35_layBox [.ref a, .int t0, .long t1, .long t2] h (e_is (e_rn c_I q))) {k63 : Nat → Int32 → Int32 → Int32 → Int32 → Int32 → eH → Option (Unit × eH)} (hk63 : ∀ l0 l1 l3 l4 l5 l6 h q, k63 l0 l1 l3 l4 l5 l6 h = some q → wp w (d + 1) YX35_paragraphLine 63 [some (.ref l0), some (.int l1), none, some (.int l3), some (.int l4), some (.int l5), some (.int l6), none, none, none] [] h (e_is (e_rn c_V q))) {l0 : Nat} {l1 : Int32} {l3 : Int32} {l4 : Int32} {l5 : Int32} {l6 : Int32} {s0 : Int32} {h : eH} {q} (hf : fX35_paragraphLine_b104 N sL k63 l0 l1 l3 l4 l5 l6 s0 h = some q) : wp w (d + 1) YX35_paragraphLine 104 [some (.ref l0), some (.int l1), none, some (.int l3), some (.int l4), some (.int l5), some (.int l6), none, none, none] [.int s0] h (e_is (e_rn c_V q)) := by
  unfold fX35_paragraphLine_b104 at hf
  refine w_istore dX35_paragraphLine_104 (by decide) (ls' := [some (.ref l0), some (.int l1), none, some (.int l3), some (.int l4), some (.int l5), some (.int l6), some (.int s0), none, none]) rfl ?_
  refine w_iload dX35_paragraphLine_106 rfl ?_
  refine w_iload dX35_paragraphLine_108 rfl ?_
  refine w_iconst dX35_paragraphLine_110 (v := 1) (by decide) ?_
  refine w_iadd dX35_paragraphLine_111 ?_
  refine w_icmp_ne 125 dX35_paragraphLine_112 (by decide) (fun c1 => ?_) (fun c1 => ?_)
  · replace hf := (if_pos (show ¬ l6 = (l5 + (1 : Int32)) from c1)).symm.trans hf
    refine w_iload dX35_paragraphLine_125 rfl ?_
    refine w_iconst dX35_paragraphLine_127 (v := 4) (by decide) ?_
    refine w_icmp_eq 204 dX35_paragraphLine_128 (by decide) (fun c2 => ?_) (fun c2 => ?_)
    · replace hf := (if_pos (show s0 = (4 : Int32) from c2)).symm.trans hf
      exact (pX35_paragraphLine_b204 hd hdr hsL hk63 hf).to ⟨rfl, rfl, rfl, rfl, rfl, rfl, trivial⟩
    · replace hf := (if_neg (show ¬ (s0 = (4 : Int32)) from c2)).symm.trans hf
      refine w_iload dX35_paragraphLine_131 rfl ?_
      refine w_bipush dX35_paragraphLine_133 (v := 6) (by decide) ?_
      refine w_icmp_eq 204 dX35_paragraphLine_135 (by decide) (fun c3 => ?_) (fun c3 => ?_)
      · replace hf := (if_pos (show s0 = (6 : Int32) from c3)).symm.trans hf
        exact (pX35_paragraphLine_b204 hd hdr hsL hk63 hf).to ⟨rfl, rfl, rfl, rfl, rfl, rfl, trivial⟩
      · replace hf := (if_neg (show ¬ (s0 = (6 : Int32)) from c3)).symm.trans hf
        refine w_aload_n dX35_paragraphLine_138 rfl rfl ?_
        refine w_iload dX35_paragraphLine_139 rfl ?_
        refine w_aload_n dX35_paragraphLine_141 rfl rfl ?_
        obtain ⟨a4, b5, hf⟩ := Option.bind_eq_some_iff.mp hf
        refine GX35_148 b5 dX35_paragraphLine_142 rfl ?_
        refine w_bipush dX35_paragraphLine_145 (v := 6) (by decide) ?_
        refine w_iload dX35_paragraphLine_147 rfl ?_
        refine w_imul dX35_paragraphLine_149 ?_
        refine w_iconst dX35_paragraphLine_150 (v := 1) (by decide) ?_
        refine w_iadd dX35_paragraphLine_151 ?_
        obtain ⟨x6, b7, hf⟩ := Option.bind_eq_some_iff.mp hf
        refine x_rI b7 dX35_paragraphLine_152 ?_
        refine w_aload_n dX35_paragraphLine_153 rfl rfl ?_
        obtain ⟨a8, b9, hf⟩ := Option.bind_eq_some_iff.mp hf
        refine GX35_148 b9 dX35_paragraphLine_154 rfl ?_
        refine w_bipush dX35_paragraphLine_157 (v := 6) (by decide) ?_
        refine w_iload dX35_paragraphLine_159 rfl ?_
        refine w_imul dX35_paragraphLine_161 ?_
        refine w_iconst dX35_paragraphLine_162 (v := 2) (by decide) ?_
        refine w_iadd dX35_paragraphLine_163 ?_
        obtain ⟨x10, b11, hf⟩ := Option.bind_eq_some_iff.mp hf
        refine x_rI b11 dX35_paragraphLine_164 ?_
        refine w_aload_n dX35_paragraphLine_165 rfl rfl ?_
        obtain ⟨a12, b13, hf⟩ := Option.bind_eq_some_iff.mp hf
        refine GX35_148 b13 dX35_paragraphLine_166 rfl ?_
        refine w_bipush dX35_paragraphLine_169 (v := 6) (by decide) ?_
        refine w_iload dX35_paragraphLine_171 rfl ?_
        refine w_imul dX35_paragraphLine_173 ?_
        refine w_iconst dX35_paragraphLine_174 (v := 3) (by decide) ?_
        refine w_iadd dX35_paragraphLine_175 ?_
        obtain ⟨x14, b15, hf⟩ := Option.bind_eq_some_iff.mp hf
        refine x_rI b15 dX35_paragraphLine_176 ?_
        refine w_aload_n dX35_paragraphLine_177 rfl rfl ?_
        obtain ⟨a16, b17, hf⟩ := Option.bind_eq_some_iff.mp hf
        refine GX35_148 b17 dX35_paragraphLine_178 rfl ?_
        refine w_bipush dX35_paragraphLine_181 (v := 6) (by decide) ?_
        refine w_iload dX35_paragraphLine_183 rfl ?_
        refine w_imul dX35_paragraphLine_185 ?_
        refine w_iconst dX35_paragraphLine_186 (v := 4) (by decide) ?_
        refine w_iadd dX35_paragraphLine_187 ?_
        obtain ⟨x18, b19, hf⟩ := Option.bind_eq_some_iff.mp hf
        refine x_rI b19 dX35_paragraphLine_188 ?_
        refine w_aload_n dX35_paragraphLine_189 rfl rfl ?_
        obtain ⟨a20, b21, hf⟩ := Option.bind_eq_some_iff.mp hf
        refine GX35_148 b21 dX35_paragraphLine_190 rfl ?_
        refine w_bipush dX35_paragraphLine_193 (v := 6) (by decide) ?_
        refine w_iload dX35_paragraphLine_195 rfl ?_
        refine w_imul dX35_paragraphLine_197 ?_
        refine w_iconst dX35_paragraphLine_198 (v := 5) (by decide) ?_
        refine w_iadd dX35_paragraphLine_199 ?_
        obtain ⟨x22, b23, hf⟩ := Option.bind_eq_some_iff.mp hf
        refine x_rI b23 dX35_paragraphLine_200 ?_
        obtain ⟨_, b24, hf⟩ := Option.bind_eq_some_iff.mp hf
        refine x_cnV hf (e_stV (Yc := YX35_lineItem) (ci := 34) (av := [.int s0, .int x6, .int x10, .int x14, .int x18, .int x22]) (st := []) dX35_paragraphLine_201 q5883 mX35_lineItem rfl (k_ok_some b24).1 (k_ok_some b24).2) mX35_lineItem.2.2.1 mX35_lineItem.2.2.2.2.1 (Nat.le_of_ble_eq_true rfl) (Nat.le_of_ble_eq_true rfl) (fun q hq => pX35_lineItem (by omega) hq) (fun q25 hf => ?_)
        exact (pX35_paragraphLine_b204 hd hdr hsL hk63 hf).to ⟨rfl, rfl, rfl, rfl, rfl, rfl, trivial⟩
  · replace hf := (if_neg (show ¬ (¬ l6 = (l5 + (1 : Int32))) from (fun z => z c1))).symm.trans hf
    refine w_aload_n dX35_paragraphLine_115 rfl rfl ?_
    refine w_sipush dX35_paragraphLine_116 (v := 262) (by decide) ?_
    obtain ⟨_, b26, hf⟩ := Option.bind_eq_some_iff.mp hf
    refine x_cnV hf (e_stV (Yc := YX35_lineGlue) (ci := 34) (av := [.int (262 : Int32)]) (st := []) dX35_paragraphLine_119 q5879 mX35_lineGlue rfl (k_ok_some b26).1 (k_ok_some b26).2) mX35_lineGlue.2.2.1 mX35_lineGlue.2.2.2.2.1 (Nat.le_of_ble_eq_true rfl) (Nat.le_of_ble_eq_true rfl) (fun q hq => pX35_lineGlue (by omega) hq) (fun q27 hf => ?_)
    refine w_goto 204 dX35_paragraphLine_122 (by decide) ?_
    exact (pX35_paragraphLine_b204 hd hdr hsL hk63 hf).to ⟨rfl, rfl, rfl, rfl, rfl, rfl, trivial⟩
def fX35_paragraphLine_b492 (N : Nat) (sL : Nat → Int32 → Int64 → Int64 → eH → Option (Int32 × eH))  (h : eH) : Option (Unit × eH) :=
  some ((), h)
theorem pX35_paragraphLine_b492 {w : eW} {d : Nat} {dr : Nat} (hd : dr + 12 ≤ d + 1) (hdr : 12 ≤ dr) {N : Nat} {sL : Nat → Int32 → Int64 → Int64 → eH → Option (Int32 × eH)} (hsL : ∀ a t0 t1 t2 h q, sL a t0 t1 t2 h = some q → wm w dr YX35_layBox [.ref a, .int t0, .long t1, .long t2] h (e_is (e_rn c_I q)))  {h : eH} {q} (hf : fX35_paragraphLine_b492 N sL h = some q) : wp w (d + 1) YX35_paragraphLine 492 [none, none, none, none, none, none, none, none, none, none] [] h (e_is (e_rn c_V q)) := by
  unfold fX35_paragraphLine_b492 at hf
  cases hf
  exact w_vret dX35_paragraphLine_492 rfl rfl
def fX35_paragraphLine_b477 (N : Nat) (sL : Nat → Int32 → Int64 → Int64 → eH → Option (Int32 × eH)) (l0 : Nat) (s0 : Int64) (h : eH) : Option (Unit × eH) :=
  if (lg_cmp s0 (0 : Int64)) = 0 then
    fX35_paragraphLine_b492 N sL h
  else
    (k_ok 34 h l0).bind fun _ =>
    (fX35_penaltyItem N sL l0 s0 h).bind fun q3 =>
    fX35_paragraphLine_b492 N sL q3.2
theorem pX35_paragraphLine_b477 {w : eW} {d : Nat} {dr : Nat} (hd : dr + 12 ≤ d + 1) (hdr : 12 ≤ dr) {N : Nat} {sL : Nat → Int32 → Int64 → Int64 → eH → Option (Int32 × eH)} (hsL : ∀ a t0 t1 t2 h q, sL a t0 t1 t2 h = some q → wm w dr YX35_layBox [.ref a, .int t0, .long t1, .long t2] h (e_is (e_rn c_I q))) {l0 : Nat} {s0 : Int64} {h : eH} {q} (hf : fX35_paragraphLine_b477 N sL l0 s0 h = some q) : wp w (d + 1) YX35_paragraphLine 477 [some (.ref l0), none, none, none, none, none, none, none, none, none] [.long s0] h (e_is (e_rn c_V q)) := by
  unfold fX35_paragraphLine_b477 at hf
  refine w_lstore dX35_paragraphLine_477 (by decide) (ls' := [some (.ref l0), none, none, none, none, none, none, none, some (.long s0), none]) rfl ?_
  refine w_lload dX35_paragraphLine_479 rfl ?_
  refine w_lconst dX35_paragraphLine_481 (v := 0) (by decide) ?_
  refine w_lcmp dX35_paragraphLine_482 ?_
  refine w_if_eq 492 dX35_paragraphLine_483 (by decide) (fun c1 => ?_) (fun c1 => ?_)
  · replace hf := (if_pos (show (lg_cmp s0 (0 : Int64)) = 0 from c1)).symm.trans hf
    exact (pX35_paragraphLine_b492 hd hdr hsL hf).to trivial
  · replace hf := (if_neg (show ¬ ((lg_cmp s0 (0 : Int64)) = 0) from c1)).symm.trans hf
    refine w_aload_n dX35_paragraphLine_486 rfl rfl ?_
    refine w_lload dX35_paragraphLine_487 rfl ?_
    obtain ⟨_, b2, hf⟩ := Option.bind_eq_some_iff.mp hf
    refine x_cnV hf (e_stV (Yc := YX35_penaltyItem) (ci := 34) (av := [.long s0]) (st := []) dX35_paragraphLine_489 q5887 mX35_penaltyItem rfl (k_ok_some b2).1 (k_ok_some b2).2) mX35_penaltyItem.2.2.1 mX35_penaltyItem.2.2.2.2.1 (Nat.le_of_ble_eq_true rfl) (Nat.le_of_ble_eq_true rfl) (fun q hq => pX35_penaltyItem (by omega) hdr hsL hq) (fun q3 hf => ?_)
    exact (pX35_paragraphLine_b492 hd hdr hsL hf).to trivial
def fX35_paragraphLine_b454 (N : Nat) (sL : Nat → Int32 → Int64 → Int64 → eH → Option (Int32 × eH)) (l0 : Nat) (l6 : Int32) (s0 : Int64) (h : eH) : Option (Unit × eH) :=
  if l6 = 0 then
    fX35_paragraphLine_b477 N sL l0 s0 h
  else
    (k_ok 34 h l0).bind fun _ =>
    (fX35_counter l0 (263 : Int32) h).bind fun q3 =>
    fX35_paragraphLine_b477 N sL l0 (s0 + (q3.1).toInt64) q3.2
theorem pX35_paragraphLine_b454 {w : eW} {d : Nat} {dr : Nat} (hd : dr + 12 ≤ d + 1) (hdr : 12 ≤ dr) {N : Nat} {sL : Nat → Int32 → Int64 → Int64 → eH → Option (Int32 × eH)} (hsL : ∀ a t0 t1 t2 h q, sL a t0 t1 t2 h = some q → wm w dr YX35_layBox [.ref a, .int t0, .long t1, .long t2] h (e_is (e_rn c_I q))) {l0 : Nat} {l6 : Int32} {s0 : Int64} {h : eH} {q} (hf : fX35_paragraphLine_b454 N sL l0 l6 s0 h = some q) : wp w (d + 1) YX35_paragraphLine 454 [some (.ref l0), none, none, none, none, none, some (.int l6), none, none, none] [.long s0] h (e_is (e_rn c_V q)) := by
  unfold fX35_paragraphLine_b454 at hf
  refine w_lstore dX35_paragraphLine_454 (by decide) (ls' := [some (.ref l0), none, none, none, none, none, some (.int l6), none, some (.long s0), none]) rfl ?_
  refine w_iload dX35_paragraphLine_456 rfl ?_
  refine w_if_eq 475 dX35_paragraphLine_458 (by decide) (fun c1 => ?_) (fun c1 => ?_)
  · replace hf := (if_pos (show l6 = 0 from c1)).symm.trans hf
    refine w_lload dX35_paragraphLine_475 rfl ?_
    exact (pX35_paragraphLine_b477 hd hdr hsL hf).to ⟨rfl, trivial⟩
  · replace hf := (if_neg (show ¬ (l6 = 0) from c1)).symm.trans hf
    refine w_lload dX35_paragraphLine_461 rfl ?_
    refine w_aload_n dX35_paragraphLine_463 rfl rfl ?_
    refine w_sipush dX35_paragraphLine_464 (v := 263) (by decide) ?_
    obtain ⟨_, b2, hf⟩ := Option.bind_eq_some_iff.mp hf
    refine x_cnI hf (e_stV (Yc := YX35_counter) (ci := 34) (av := [.int (263 : Int32)]) (st := [.long s0]) dX35_paragraphLine_467 q5595 mX35_counter rfl (k_ok_some b2).1 (k_ok_some b2).2) mX35_counter.2.2.1 mX35_counter.2.2.2.2.1 (Nat.le_of_ble_eq_true rfl) (Nat.le_of_ble_eq_true rfl) (fun q hq => pX35_counter (by omega) hq) (fun q3 hf => ?_)
    refine w_i2l dX35_paragraphLine_470 ?_
    refine w_ladd dX35_paragraphLine_471 ?_
    refine w_goto 477 dX35_paragraphLine_472 (by decide) ?_
    exact (pX35_paragraphLine_b477 hd hdr hsL hf).to ⟨rfl, trivial⟩
def fX35_paragraphLine_b429 (N : Nat) (sL : Nat → Int32 → Int64 → Int64 → eH → Option (Int32 × eH)) (l0 : Nat) (l1 : Int32) (l3 : Int32) (l6 : Int32) (s0 : Int64) (h : eH) : Option (Unit × eH) :=
  if ¬ l1 = (l3 - (2 : Int32)) then
    fX35_paragraphLine_b454 N sL l0 l6 s0 h
  else
    (k_ok 34 h l0).bind fun _ =>
    (fX35_counter l0 (262 : Int32) h).bind fun q3 =>
    fX35_paragraphLine_b454 N sL l0 l6 (s0 + (q3.1).toInt64) q3.2
theorem pX35_paragraphLine_b429 {w : eW} {d : Nat} {dr : Nat} (hd : dr + 12 ≤ d + 1) (hdr : 12 ≤ dr) {N : Nat} {sL : Nat → Int32 → Int64 → Int64 → eH → Option (Int32 × eH)} (hsL : ∀ a t0 t1 t2 h q, sL a t0 t1 t2 h = some q → wm w dr YX35_layBox [.ref a, .int t0, .long t1, .long t2] h (e_is (e_rn c_I q))) {l0 : Nat} {l1 : Int32} {l3 : Int32} {l6 : Int32} {s0 : Int64} {h : eH} {q} (hf : fX35_paragraphLine_b429 N sL l0 l1 l3 l6 s0 h = some q) : wp w (d + 1) YX35_paragraphLine 429 [some (.ref l0), some (.int l1), none, some (.int l3), none, none, some (.int l6), none, none, none] [.long s0] h (e_is (e_rn c_V q)) := by
  unfold fX35_paragraphLine_b429 at hf
  refine w_lstore dX35_paragraphLine_429 (by decide) (ls' := [some (.ref l0), some (.int l1), none, some (.int l3), none, none, some (.int l6), none, some (.long s0), none]) rfl ?_
  refine w_iload_n dX35_paragraphLine_431 rfl rfl ?_
  refine w_iload_n dX35_paragraphLine_432 rfl rfl ?_
  refine w_iconst dX35_paragraphLine_433 (v := 2) (by decide) ?_
  refine w_isub dX35_paragraphLine_434 ?_
  refine w_icmp_ne 452 dX35_paragraphLine_435 (by decide) (fun c1 => ?_) (fun c1 => ?_)
  · replace hf := (if_pos (show ¬ l1 = (l3 - (2 : Int32)) from c1)).symm.trans hf
    refine w_lload dX35_paragraphLine_452 rfl ?_
    exact (pX35_paragraphLine_b454 hd hdr hsL hf).to ⟨rfl, rfl, trivial⟩
  · replace hf := (if_neg (show ¬ (¬ l1 = (l3 - (2 : Int32))) from (fun z => z c1))).symm.trans hf
    refine w_lload dX35_paragraphLine_438 rfl ?_
    refine w_aload_n dX35_paragraphLine_440 rfl rfl ?_
    refine w_sipush dX35_paragraphLine_441 (v := 262) (by decide) ?_
    obtain ⟨_, b2, hf⟩ := Option.bind_eq_some_iff.mp hf
    refine x_cnI hf (e_stV (Yc := YX35_counter) (ci := 34) (av := [.int (262 : Int32)]) (st := [.long s0]) dX35_paragraphLine_444 q5595 mX35_counter rfl (k_ok_some b2).1 (k_ok_some b2).2) mX35_counter.2.2.1 mX35_counter.2.2.2.2.1 (Nat.le_of_ble_eq_true rfl) (Nat.le_of_ble_eq_true rfl) (fun q hq => pX35_counter (by omega) hq) (fun q3 hf => ?_)
    refine w_i2l dX35_paragraphLine_447 ?_
    refine w_ladd dX35_paragraphLine_448 ?_
    refine w_goto 454 dX35_paragraphLine_449 (by decide) ?_
    exact (pX35_paragraphLine_b454 hd hdr hsL hf).to ⟨rfl, rfl, trivial⟩
def fX35_paragraphLine_b339 (N : Nat) (sL : Nat → Int32 → Int64 → Int64 → eH → Option (Int32 × eH)) (l0 : Nat) (l1 : Int32) (l3 : Int32) (l6 : Int32) (h : eH) : Option (Unit × eH) :=
  (k_ok 34 h l0).bind fun _ =>
  (fX35_lineGlue l0 (261 : Int32) h).bind fun q2 =>
  (g_A 34 q2.2 l0 127).bind fun a3 =>
  (g_I 34 q2.2 l0 128).bind fun x5 =>
  (k_ok 34 q2.2 l0).bind fun _ =>
  (fX35_now l0 (2241 : Int32) q2.2).bind fun q8 =>
  (k_ok 34 q8.2 l0).bind fun _ =>
  (fX35_pack N l0 a3 (0 : Int32) x5 (0 : Int32) (1 : Int32) q8.1 q8.2).bind fun q10 =>
  (g_I 34 q10.2 l0 46).bind fun x11 =>
  if x11 ≤ 0 then
    (k_ok 34 q10.2 l0).bind fun _ =>
    (fX35_boxItem N sL l0 q10.1 (0 : Int32) q10.2).bind fun q15 =>
    (g_I 34 q15.2 l0 46).bind fun x16 =>
    if ¬ x16 = 0 then
      fX35_paragraphLine_b492 N sL q15.2
    else
      if (l3 - (1 : Int32)) ≤ l1 then
        fX35_paragraphLine_b492 N sL q15.2
      else
        (k_ok 34 q15.2 l0).bind fun _ =>
        (fX35_counter l0 (264 : Int32) q15.2).bind fun q21 =>
        if ¬ l1 = 0 then
          fX35_paragraphLine_b429 N sL l0 l1 l3 l6 (q21.1).toInt64 q21.2
        else
          (k_ok 34 q21.2 l0).bind fun _ =>
          (fX35_counter l0 (261 : Int32) q21.2).bind fun q24 =>
          fX35_paragraphLine_b429 N sL l0 l1 l3 l6 ((q21.1).toInt64 + (q24.1).toInt64) q24.2
  else
    some ((), q10.2)
theorem pX35_paragraphLine_b339 {w : eW} {d : Nat} {dr : Nat} (hd : dr + 12 ≤ d + 1) (hdr : 12 ≤ dr) {N : Nat} {sL : Nat → Int32 → Int64 → Int64 → eH → Option (Int32 × eH)} (hsL : ∀ a t0 t1 t2 h q, sL a t0 t1 t2 h = some q → wm w dr YX35_layBox [.ref a, .int t0, .long t1, .long t2] h (e_is (e_rn c_I q))) {l0 : Nat} {l1 : Int32} {l3 : Int32} {l6 : Int32} {h : eH} {q} (hf : fX35_paragraphLine_b339 N sL l0 l1 l3 l6 h = some q) : wp w (d + 1) YX35_paragraphLine 339 [some (.ref l0), some (.int l1), none, some (.int l3), none, none, some (.int l6), none, none, none] [] h (e_is (e_rn c_V q)) := by
  unfold fX35_paragraphLine_b339 at hf
  refine w_aload_n dX35_paragraphLine_339 rfl rfl ?_
  refine w_sipush dX35_paragraphLine_340 (v := 261) (by decide) ?_
  obtain ⟨_, b1, hf⟩ := Option.bind_eq_some_iff.mp hf
  refine x_cnV hf (e_stV (Yc := YX35_lineGlue) (ci := 34) (av := [.int (261 : Int32)]) (st := []) dX35_paragraphLine_343 q5879 mX35_lineGlue rfl (k_ok_some b1).1 (k_ok_some b1).2) mX35_lineGlue.2.2.1 mX35_lineGlue.2.2.2.2.1 (Nat.le_of_ble_eq_true rfl) (Nat.le_of_ble_eq_true rfl) (fun q hq => pX35_lineGlue (by omega) hq) (fun q2 hf => ?_)
  refine w_aload_n dX35_paragraphLine_346 rfl rfl ?_
  refine w_aload_n dX35_paragraphLine_347 rfl rfl ?_
  obtain ⟨a3, b4, hf⟩ := Option.bind_eq_some_iff.mp hf
  refine GX35_246 b4 dX35_paragraphLine_348 rfl ?_
  refine w_iconst dX35_paragraphLine_351 (v := 0) (by decide) ?_
  refine w_aload_n dX35_paragraphLine_352 rfl rfl ?_
  obtain ⟨x5, b6, hf⟩ := Option.bind_eq_some_iff.mp hf
  refine GX35_936 b6 dX35_paragraphLine_353 rfl ?_
  refine w_iconst dX35_paragraphLine_356 (v := 0) (by decide) ?_
  refine w_iconst dX35_paragraphLine_357 (v := 1) (by decide) ?_
  refine w_aload_n dX35_paragraphLine_358 rfl rfl ?_
  refine w_sipush dX35_paragraphLine_359 (v := 2241) (by decide) ?_
  obtain ⟨_, b7, hf⟩ := Option.bind_eq_some_iff.mp hf
  refine x_cnI hf (e_stV (Yc := YX35_now) (ci := 34) (av := [.int (2241 : Int32)]) (st := [.int (1 : Int32), .int (0 : Int32), .int x5, .int (0 : Int32), .ref a3, .ref l0]) dX35_paragraphLine_362 q5097 mX35_now rfl (k_ok_some b7).1 (k_ok_some b7).2) mX35_now.2.2.1 mX35_now.2.2.2.2.1 (Nat.le_of_ble_eq_true rfl) (Nat.le_of_ble_eq_true rfl) (fun q hq => pX35_now (by omega) hq) (fun q8 hf => ?_)
  obtain ⟨_, b9, hf⟩ := Option.bind_eq_some_iff.mp hf
  refine x_cnI hf (e_stV (Yc := YX35_pack) (ci := 34) (av := [.ref a3, .int (0 : Int32), .int x5, .int (0 : Int32), .int (1 : Int32), .int q8.1]) (st := []) dX35_paragraphLine_365 q5654 mX35_pack rfl (k_ok_some b9).1 (k_ok_some b9).2) mX35_pack.2.2.1 mX35_pack.2.2.2.2.1 (Nat.le_of_ble_eq_true rfl) (Nat.le_of_ble_eq_true rfl) (fun q hq => pX35_pack (by omega) hq) (fun q10 hf => ?_)
  refine w_istore dX35_paragraphLine_368 (by decide) (ls' := [some (.ref l0), some (.int l1), none, some (.int l3), none, none, some (.int l6), some (.int q10.1), none, none]) rfl ?_
  refine w_aload_n dX35_paragraphLine_370 rfl rfl ?_
  obtain ⟨x11, b12, hf⟩ := Option.bind_eq_some_iff.mp hf
  refine GX35_321 b12 dX35_paragraphLine_371 rfl ?_
  refine w_if_le 378 dX35_paragraphLine_374 (by decide) (fun c13 => ?_) (fun c13 => ?_)
  · replace hf := (if_pos (show x11 ≤ 0 from c13)).symm.trans hf
    refine w_aload_n dX35_paragraphLine_378 rfl rfl ?_
    refine w_iload dX35_paragraphLine_379 rfl ?_
    refine w_iconst dX35_paragraphLine_381 (v := 0) (by decide) ?_
    obtain ⟨_, b14, hf⟩ := Option.bind_eq_some_iff.mp hf
    refine x_cnV hf (e_stV (Yc := YX35_boxItem) (ci := 34) (av := [.int q10.1, .int (0 : Int32)]) (st := []) dX35_paragraphLine_382 q5663 mX35_boxItem rfl (k_ok_some b14).1 (k_ok_some b14).2) mX35_boxItem.2.2.1 mX35_boxItem.2.2.2.2.1 (Nat.le_of_ble_eq_true rfl) (Nat.le_of_ble_eq_true rfl) (fun q hq => pX35_boxItem (by omega) hdr hsL hq) (fun q15 hf => ?_)
    refine w_aload_n dX35_paragraphLine_385 rfl rfl ?_
    obtain ⟨x16, b17, hf⟩ := Option.bind_eq_some_iff.mp hf
    refine GX35_321 b17 dX35_paragraphLine_386 rfl ?_
    refine w_if_ne 492 dX35_paragraphLine_389 (by decide) (fun c18 => ?_) (fun c18 => ?_)
    · replace hf := (if_pos (show ¬ x16 = 0 from c18)).symm.trans hf
      exact (pX35_paragraphLine_b492 hd hdr hsL hf).to trivial
    · replace hf := (if_neg (show ¬ (¬ x16 = 0) from (fun z => z c18))).symm.trans hf
      refine w_iload_n dX35_paragraphLine_392 rfl rfl ?_
      refine w_iload_n dX35_paragraphLine_393 rfl rfl ?_
      refine w_iconst dX35_paragraphLine_394 (v := 1) (by decide) ?_
      refine w_isub dX35_paragraphLine_395 ?_
      refine w_icmp_ge 492 dX35_paragraphLine_396 (by decide) (fun c19 => ?_) (fun c19 => ?_)
      · replace hf := (if_pos (show (l3 - (1 : Int32)) ≤ l1 from c19)).symm.trans hf
        exact (pX35_paragraphLine_b492 hd hdr hsL hf).to trivial
      · replace hf := (if_neg (show ¬ ((l3 - (1 : Int32)) ≤ l1) from c19)).symm.trans hf
        refine w_aload_n dX35_paragraphLine_399 rfl rfl ?_
        refine w_sipush dX35_paragraphLine_400 (v := 264) (by decide) ?_
        obtain ⟨_, b20, hf⟩ := Option.bind_eq_some_iff.mp hf
        refine x_cnI hf (e_stV (Yc := YX35_counter) (ci := 34) (av := [.int (264 : Int32)]) (st := []) dX35_paragraphLine_403 q5595 mX35_counter rfl (k_ok_some b20).1 (k_ok_some b20).2) mX35_counter.2.2.1 mX35_counter.2.2.2.2.1 (Nat.le_of_ble_eq_true rfl) (Nat.le_of_ble_eq_true rfl) (fun q hq => pX35_counter (by omega) hq) (fun q21 hf => ?_)
        refine w_i2l dX35_paragraphLine_406 ?_
        refine w_lstore dX35_paragraphLine_407 (by decide) (ls' := [some (.ref l0), some (.int l1), none, some (.int l3), none, none, some (.int l6), some (.int q10.1), some (.long (q21.1).toInt64), none]) rfl ?_
        refine w_iload_n dX35_paragraphLine_409 rfl rfl ?_
        refine w_if_ne 427 dX35_paragraphLine_410 (by decide) (fun c22 => ?_) (fun c22 => ?_)
        · replace hf := (if_pos (show ¬ l1 = 0 from c22)).symm.trans hf
          refine w_lload dX35_paragraphLine_427 rfl ?_
          exact (pX35_paragraphLine_b429 hd hdr hsL hf).to ⟨rfl, rfl, rfl, rfl, trivial⟩
        · replace hf := (if_neg (show ¬ (¬ l1 = 0) from (fun z => z c22))).symm.trans hf
          refine w_lload dX35_paragraphLine_413 rfl ?_
          refine w_aload_n dX35_paragraphLine_415 rfl rfl ?_
          refine w_sipush dX35_paragraphLine_416 (v := 261) (by decide) ?_
          obtain ⟨_, b23, hf⟩ := Option.bind_eq_some_iff.mp hf
          refine x_cnI hf (e_stV (Yc := YX35_counter) (ci := 34) (av := [.int (261 : Int32)]) (st := [.long (q21.1).toInt64]) dX35_paragraphLine_419 q5595 mX35_counter rfl (k_ok_some b23).1 (k_ok_some b23).2) mX35_counter.2.2.1 mX35_counter.2.2.2.2.1 (Nat.le_of_ble_eq_true rfl) (Nat.le_of_ble_eq_true rfl) (fun q hq => pX35_counter (by omega) hq) (fun q24 hf => ?_)
          refine w_i2l dX35_paragraphLine_422 ?_
          refine w_ladd dX35_paragraphLine_423 ?_
          refine w_goto 429 dX35_paragraphLine_424 (by decide) ?_
          exact (pX35_paragraphLine_b429 hd hdr hsL hf).to ⟨rfl, rfl, rfl, rfl, trivial⟩
  · replace hf := (if_neg (show ¬ (x11 ≤ 0) from c13)).symm.trans hf
    cases hf
    exact w_vret dX35_paragraphLine_377 rfl rfl
def fX35_paragraphLine_b237 (N : Nat) (sL : Nat → Int32 → Int64 → Int64 → eH → Option (Int32 × eH)) (l0 : Nat) (l1 : Int32) (l3 : Int32) (l4 : Int32) (s0 : Int32) (h : eH) : Option (Unit × eH) :=
  if s0 = 0 then
    fX35_paragraphLine_b339 N sL l0 l1 l3 s0 h
  else
    (g_A 34 h l0 63).bind fun a2 =>
    (r_I 100 h a2 (((6 : Int32) * l4) + (1 : Int32))).bind fun x4 =>
    if x4 < 0 then
      fX35_paragraphLine_b339 N sL l0 l1 l3 s0 h
    else
      (g_A 34 h l0 63).bind fun a7 =>
      (r_I 100 h a7 (((6 : Int32) * l4) + (1 : Int32))).bind fun x9 =>
      (k_ok 34 h l0).bind fun _ =>
      (fX35_metrics l0 x9 h).bind fun q12 =>
      (g_A 34 q12.2 l0 50).bind fun a13 =>
      (r_I 100 q12.2 a13 x9).bind fun x15 =>
      (k_ok 42 q12.2 q12.1).bind fun _ =>
      (fX40_of N q12.1 (45 : Int32) (0 : Int32) x15 q12.2).bind fun q18 =>
      (k_ok 34 q18.2 l0).bind fun _ =>
      (fX35_metrics l0 x9 q18.2).bind fun q20 =>
      (g_A 34 q20.2 l0 50).bind fun a21 =>
      (r_I 100 q20.2 a21 x9).bind fun x23 =>
      (k_ok 42 q20.2 q20.1).bind fun _ =>
      (fX40_of N q20.1 (45 : Int32) (1 : Int32) x23 q20.2).bind fun q26 =>
      (k_ok 34 q26.2 l0).bind fun _ =>
      (fX35_metrics l0 x9 q26.2).bind fun q28 =>
      (g_A 34 q28.2 l0 50).bind fun a29 =>
      (r_I 100 q28.2 a29 x9).bind fun x31 =>
      (k_ok 42 q28.2 q28.1).bind fun _ =>
      (fX40_of N q28.1 (45 : Int32) (2 : Int32) x31 q28.2).bind fun q34 =>
      (k_ok 34 q34.2 l0).bind fun _ =>
      (fX35_lineItem l0 (0 : Int32) x9 (45 : Int32) q18.1 q26.1 q34.1 q34.2).bind fun q36 =>
      fX35_paragraphLine_b339 N sL l0 l1 l3 s0 q36.2
theorem pX35_paragraphLine_b237 {w : eW} {d : Nat} {dr : Nat} (hd : dr + 12 ≤ d + 1) (hdr : 12 ≤ dr) {N : Nat} {sL : Nat → Int32 → Int64 → Int64 → eH → Option (Int32 × eH)} (hsL : ∀ a t0 t1 t2 h q, sL a t0 t1 t2 h = some q → wm w dr YX35_layBox [.ref a, .int t0, .long t1, .long t2] h (e_is (e_rn c_I q))) {l0 : Nat} {l1 : Int32} {l3 : Int32} {l4 : Int32} {s0 : Int32} {h : eH} {q} (hf : fX35_paragraphLine_b237 N sL l0 l1 l3 l4 s0 h = some q) : wp w (d + 1) YX35_paragraphLine 237 [some (.ref l0), some (.int l1), none, some (.int l3), some (.int l4), none, none, none, none, none] [.int s0] h (e_is (e_rn c_V q)) := by
  unfold fX35_paragraphLine_b237 at hf
  refine w_istore dX35_paragraphLine_237 (by decide) (ls' := [some (.ref l0), some (.int l1), none, some (.int l3), some (.int l4), none, some (.int s0), none, none, none]) rfl ?_
  refine w_iload dX35_paragraphLine_239 rfl ?_
  refine w_if_eq 339 dX35_paragraphLine_241 (by decide) (fun c1 => ?_) (fun c1 => ?_)
  · replace hf := (if_pos (show s0 = 0 from c1)).symm.trans hf
    exact (pX35_paragraphLine_b339 hd hdr hsL hf).to ⟨rfl, rfl, rfl, rfl, trivial⟩
  · replace hf := (if_neg (show ¬ (s0 = 0) from c1)).symm.trans hf
    refine w_aload_n dX35_paragraphLine_244 rfl rfl ?_
    obtain ⟨a2, b3, hf⟩ := Option.bind_eq_some_iff.mp hf
    refine GX35_148 b3 dX35_paragraphLine_245 rfl ?_
    refine w_bipush dX35_paragraphLine_248 (v := 6) (by decide) ?_
    refine w_iload dX35_paragraphLine_250 rfl ?_
    refine w_imul dX35_paragraphLine_252 ?_
    refine w_iconst dX35_paragraphLine_253 (v := 1) (by decide) ?_
    refine w_iadd dX35_paragraphLine_254 ?_
    obtain ⟨x4, b5, hf⟩ := Option.bind_eq_some_iff.mp hf
    refine x_rI b5 dX35_paragraphLine_255 ?_
    refine w_if_lt 339 dX35_paragraphLine_256 (by decide) (fun c6 => ?_) (fun c6 => ?_)
    · replace hf := (if_pos (show x4 < 0 from c6)).symm.trans hf
      exact (pX35_paragraphLine_b339 hd hdr hsL hf).to ⟨rfl, rfl, rfl, rfl, trivial⟩
    · replace hf := (if_neg (show ¬ (x4 < 0) from c6)).symm.trans hf
      refine w_aload_n dX35_paragraphLine_259 rfl rfl ?_
      obtain ⟨a7, b8, hf⟩ := Option.bind_eq_some_iff.mp hf
      refine GX35_148 b8 dX35_paragraphLine_260 rfl ?_
      refine w_bipush dX35_paragraphLine_263 (v := 6) (by decide) ?_
      refine w_iload dX35_paragraphLine_265 rfl ?_
      refine w_imul dX35_paragraphLine_267 ?_
      refine w_iconst dX35_paragraphLine_268 (v := 1) (by decide) ?_
      refine w_iadd dX35_paragraphLine_269 ?_
      obtain ⟨x9, b10, hf⟩ := Option.bind_eq_some_iff.mp hf
      refine x_rI b10 dX35_paragraphLine_270 ?_
      refine w_istore dX35_paragraphLine_271 (by decide) (ls' := [some (.ref l0), some (.int l1), none, some (.int l3), some (.int l4), none, some (.int s0), some (.int x9), none, none]) rfl ?_
      refine w_aload_n dX35_paragraphLine_273 rfl rfl ?_
      refine w_iconst dX35_paragraphLine_274 (v := 0) (by decide) ?_
      refine w_iload dX35_paragraphLine_275 rfl ?_
      refine w_bipush dX35_paragraphLine_277 (v := 45) (by decide) ?_
      refine w_aload_n dX35_paragraphLine_279 rfl rfl ?_
      refine w_iload dX35_paragraphLine_280 rfl ?_
      obtain ⟨_, b11, hf⟩ := Option.bind_eq_some_iff.mp hf
      refine x_cnA hf (e_stV (Yc := YX35_metrics) (ci := 34) (av := [.int x9]) (st := [.int (45 : Int32), .int x9, .int (0 : Int32), .ref l0]) dX35_paragraphLine_282 q5667 mX35_metrics rfl (k_ok_some b11).1 (k_ok_some b11).2) mX35_metrics.2.2.1 mX35_metrics.2.2.2.2.1 (Nat.le_of_ble_eq_true rfl) (Nat.le_of_ble_eq_true rfl) (fun q hq => pX35_metrics (by omega) hq) (fun q12 hf => ?_)
      refine w_bipush dX35_paragraphLine_285 (v := 45) (by decide) ?_
      refine w_iconst dX35_paragraphLine_287 (v := 0) (by decide) ?_
      refine w_aload_n dX35_paragraphLine_288 rfl rfl ?_
      obtain ⟨a13, b14, hf⟩ := Option.bind_eq_some_iff.mp hf
      refine GX35_124 b14 dX35_paragraphLine_289 rfl ?_
      refine w_iload dX35_paragraphLine_292 rfl ?_
      obtain ⟨x15, b16, hf⟩ := Option.bind_eq_some_iff.mp hf
      refine x_rI b16 dX35_paragraphLine_294 ?_
      obtain ⟨_, b17, hf⟩ := Option.bind_eq_some_iff.mp hf
      refine x_cnI hf (e_stV (Yc := YX40_of) (ci := 42) (av := [.int (45 : Int32), .int (0 : Int32), .int x15]) (st := [.int (45 : Int32), .int x9, .int (0 : Int32), .ref l0]) dX35_paragraphLine_295 q5722 mX40_of rfl (k_ok_some b17).1 (k_ok_some b17).2) mX40_of.2.2.1 mX40_of.2.2.2.2.1 (Nat.le_of_ble_eq_true rfl) (Nat.le_of_ble_eq_true rfl) (fun q hq => pX40_of (by omega) hq) (fun q18 hf => ?_)
      refine w_aload_n dX35_paragraphLine_298 rfl rfl ?_
      refine w_iload dX35_paragraphLine_299 rfl ?_
      obtain ⟨_, b19, hf⟩ := Option.bind_eq_some_iff.mp hf
      refine x_cnA hf (e_stV (Yc := YX35_metrics) (ci := 34) (av := [.int x9]) (st := [.int q18.1, .int (45 : Int32), .int x9, .int (0 : Int32), .ref l0]) dX35_paragraphLine_301 q5667 mX35_metrics rfl (k_ok_some b19).1 (k_ok_some b19).2) mX35_metrics.2.2.1 mX35_metrics.2.2.2.2.1 (Nat.le_of_ble_eq_true rfl) (Nat.le_of_ble_eq_true rfl) (fun q hq => pX35_metrics (by omega) hq) (fun q20 hf => ?_)
      refine w_bipush dX35_paragraphLine_304 (v := 45) (by decide) ?_
      refine w_iconst dX35_paragraphLine_306 (v := 1) (by decide) ?_
      refine w_aload_n dX35_paragraphLine_307 rfl rfl ?_
      obtain ⟨a21, b22, hf⟩ := Option.bind_eq_some_iff.mp hf
      refine GX35_124 b22 dX35_paragraphLine_308 rfl ?_
      refine w_iload dX35_paragraphLine_311 rfl ?_
      obtain ⟨x23, b24, hf⟩ := Option.bind_eq_some_iff.mp hf
      refine x_rI b24 dX35_paragraphLine_313 ?_
      obtain ⟨_, b25, hf⟩ := Option.bind_eq_some_iff.mp hf
      refine x_cnI hf (e_stV (Yc := YX40_of) (ci := 42) (av := [.int (45 : Int32), .int (1 : Int32), .int x23]) (st := [.int q18.1, .int (45 : Int32), .int x9, .int (0 : Int32), .ref l0]) dX35_paragraphLine_314 q5722 mX40_of rfl (k_ok_some b25).1 (k_ok_some b25).2) mX40_of.2.2.1 mX40_of.2.2.2.2.1 (Nat.le_of_ble_eq_true rfl) (Nat.le_of_ble_eq_true rfl) (fun q hq => pX40_of (by omega) hq) (fun q26 hf => ?_)
      refine w_aload_n dX35_paragraphLine_317 rfl rfl ?_
      refine w_iload dX35_paragraphLine_318 rfl ?_
      obtain ⟨_, b27, hf⟩ := Option.bind_eq_some_iff.mp hf
      refine x_cnA hf (e_stV (Yc := YX35_metrics) (ci := 34) (av := [.int x9]) (st := [.int q26.1, .int q18.1, .int (45 : Int32), .int x9, .int (0 : Int32), .ref l0]) dX35_paragraphLine_320 q5667 mX35_metrics rfl (k_ok_some b27).1 (k_ok_some b27).2) mX35_metrics.2.2.1 mX35_metrics.2.2.2.2.1 (Nat.le_of_ble_eq_true rfl) (Nat.le_of_ble_eq_true rfl) (fun q hq => pX35_metrics (by omega) hq) (fun q28 hf => ?_)
      refine w_bipush dX35_paragraphLine_323 (v := 45) (by decide) ?_
      refine w_iconst dX35_paragraphLine_325 (v := 2) (by decide) ?_
      refine w_aload_n dX35_paragraphLine_326 rfl rfl ?_
      obtain ⟨a29, b30, hf⟩ := Option.bind_eq_some_iff.mp hf
      refine GX35_124 b30 dX35_paragraphLine_327 rfl ?_
      refine w_iload dX35_paragraphLine_330 rfl ?_
      obtain ⟨x31, b32, hf⟩ := Option.bind_eq_some_iff.mp hf
      refine x_rI b32 dX35_paragraphLine_332 ?_
      obtain ⟨_, b33, hf⟩ := Option.bind_eq_some_iff.mp hf
      refine x_cnI hf (e_stV (Yc := YX40_of) (ci := 42) (av := [.int (45 : Int32), .int (2 : Int32), .int x31]) (st := [.int q26.1, .int q18.1, .int (45 : Int32), .int x9, .int (0 : Int32), .ref l0]) dX35_paragraphLine_333 q5722 mX40_of rfl (k_ok_some b33).1 (k_ok_some b33).2) mX40_of.2.2.1 mX40_of.2.2.2.2.1 (Nat.le_of_ble_eq_true rfl) (Nat.le_of_ble_eq_true rfl) (fun q hq => pX40_of (by omega) hq) (fun q34 hf => ?_)
      obtain ⟨_, b35, hf⟩ := Option.bind_eq_some_iff.mp hf
      refine x_cnV hf (e_stV (Yc := YX35_lineItem) (ci := 34) (av := [.int (0 : Int32), .int x9, .int (45 : Int32), .int q18.1, .int q26.1, .int q34.1]) (st := []) dX35_paragraphLine_336 q5883 mX35_lineItem rfl (k_ok_some b35).1 (k_ok_some b35).2) mX35_lineItem.2.2.1 mX35_lineItem.2.2.2.2.1 (Nat.le_of_ble_eq_true rfl) (Nat.le_of_ble_eq_true rfl) (fun q hq => pX35_lineItem (by omega) hq) (fun q36 hf => ?_)
      exact (pX35_paragraphLine_b339 hd hdr hsL hf).to ⟨rfl, rfl, rfl, rfl, trivial⟩
def fX35_paragraphLine_b236 (N : Nat) (sL : Nat → Int32 → Int64 → Int64 → eH → Option (Int32 × eH)) (l0 : Nat) (l1 : Int32) (l3 : Int32) (l4 : Int32) (h : eH) : Option (Unit × eH) :=
  fX35_paragraphLine_b237 N sL l0 l1 l3 l4 (0 : Int32) h
theorem pX35_paragraphLine_b236 {w : eW} {d : Nat} {dr : Nat} (hd : dr + 12 ≤ d + 1) (hdr : 12 ≤ dr) {N : Nat} {sL : Nat → Int32 → Int64 → Int64 → eH → Option (Int32 × eH)} (hsL : ∀ a t0 t1 t2 h q, sL a t0 t1 t2 h = some q → wm w dr YX35_layBox [.ref a, .int t0, .long t1, .long t2] h (e_is (e_rn c_I q))) {l0 : Nat} {l1 : Int32} {l3 : Int32} {l4 : Int32} {h : eH} {q} (hf : fX35_paragraphLine_b236 N sL l0 l1 l3 l4 h = some q) : wp w (d + 1) YX35_paragraphLine 236 [some (.ref l0), some (.int l1), none, some (.int l3), some (.int l4), none, none, none, none, none] [] h (e_is (e_rn c_V q)) := by
  unfold fX35_paragraphLine_b236 at hf
  refine w_iconst dX35_paragraphLine_236 (v := 0) (by decide) ?_
  exact (pX35_paragraphLine_b237 hd hdr hsL hf).to ⟨rfl, rfl, rfl, rfl, trivial⟩
def fX35_paragraphLine_b63 (N : Nat) (sL : Nat → Int32 → Int64 → Int64 → eH → Option (Int32 × eH)) : Nat → Nat → Int32 → Int32 → Int32 → Int32 → Int32 → eH → Option (Unit × eH)
  | 0, _, _, _, _, _, _, _ => none
  | n + 1, l0, l1, l3, l4, l5, l6, h =>
    if l4 ≤ l6 then
      if l5 ≤ l4 then
        fX35_paragraphLine_b236 N sL l0 l1 l3 l4 h
      else
        (g_A 34 h l0 63).bind fun a3 =>
        (r_I 100 h a3 ((6 : Int32) * l4)).bind fun x5 =>
        if ¬ x5 = (6 : Int32) then
          fX35_paragraphLine_b236 N sL l0 l1 l3 l4 h
        else
          fX35_paragraphLine_b237 N sL l0 l1 l3 l4 (1 : Int32) h
    else
      if l5 ≤ l6 then
        if ¬ l6 = (l5 + (1 : Int32)) then
          fX35_paragraphLine_b104 N sL (fX35_paragraphLine_b63 N sL n) l0 l1 l3 l4 l5 l6 (4 : Int32) h
        else
          fX35_paragraphLine_b104 N sL (fX35_paragraphLine_b63 N sL n) l0 l1 l3 l4 l5 l6 (2 : Int32) h
      else
        (g_A 34 h l0 63).bind fun a10 =>
        (r_I 100 h a10 ((6 : Int32) * l6)).bind fun x12 =>
        fX35_paragraphLine_b104 N sL (fX35_paragraphLine_b63 N sL n) l0 l1 l3 l4 l5 l6 x12 h
theorem pX35_paragraphLine_b63 {w : eW} {d : Nat} {dr : Nat} (hd : dr + 12 ≤ d + 1) (hdr : 12 ≤ dr) {N : Nat} {sL : Nat → Int32 → Int64 → Int64 → eH → Option (Int32 × eH)} (hsL : ∀ a t0 t1 t2 h q, sL a t0 t1 t2 h = some q → wm w dr YX35_layBox [.ref a, .int t0, .long t1, .long t2] h (e_is (e_rn c_I q))) : ∀ (n : Nat) l0 l1 l3 l4 l5 l6 h q, fX35_paragraphLine_b63 N sL n l0 l1 l3 l4 l5 l6 h = some q → wp w (d + 1) YX35_paragraphLine 63 [some (.ref l0), some (.int l1), none, some (.int l3), some (.int l4), some (.int l5), some (.int l6), none, none, none] [] h (e_is (e_rn c_V q)) := by
  intro n
  induction n with
  | zero => intro l0 l1 l3 l4 l5 l6 h q hf; simp [fX35_paragraphLine_b63] at hf
  | succ n ih =>
    intro l0 l1 l3 l4 l5 l6 h q hf
    rw [fX35_paragraphLine_b63] at hf
    refine w_iload dX35_paragraphLine_63 rfl ?_
    refine w_iload dX35_paragraphLine_65 rfl ?_
    refine w_icmp_ge 210 dX35_paragraphLine_67 (by decide) (fun c1 => ?_) (fun c1 => ?_)
    · replace hf := (if_pos (show l4 ≤ l6 from c1)).symm.trans hf
      refine w_iload dX35_paragraphLine_210 rfl ?_
      refine w_iload dX35_paragraphLine_212 rfl ?_
      refine w_icmp_ge 236 dX35_paragraphLine_214 (by decide) (fun c2 => ?_) (fun c2 => ?_)
      · replace hf := (if_pos (show l5 ≤ l4 from c2)).symm.trans hf
        exact (pX35_paragraphLine_b236 hd hdr hsL hf).to ⟨rfl, rfl, rfl, rfl, trivial⟩
      · replace hf := (if_neg (show ¬ (l5 ≤ l4) from c2)).symm.trans hf
        refine w_aload_n dX35_paragraphLine_217 rfl rfl ?_
        obtain ⟨a3, b4, hf⟩ := Option.bind_eq_some_iff.mp hf
        refine GX35_148 b4 dX35_paragraphLine_218 rfl ?_
        refine w_bipush dX35_paragraphLine_221 (v := 6) (by decide) ?_
        refine w_iload dX35_paragraphLine_223 rfl ?_
        refine w_imul dX35_paragraphLine_225 ?_
        obtain ⟨x5, b6, hf⟩ := Option.bind_eq_some_iff.mp hf
        refine x_rI b6 dX35_paragraphLine_226 ?_
        refine w_bipush dX35_paragraphLine_227 (v := 6) (by decide) ?_
        refine w_icmp_ne 236 dX35_paragraphLine_229 (by decide) (fun c7 => ?_) (fun c7 => ?_)
        · replace hf := (if_pos (show ¬ x5 = (6 : Int32) from c7)).symm.trans hf
          exact (pX35_paragraphLine_b236 hd hdr hsL hf).to ⟨rfl, rfl, rfl, rfl, trivial⟩
        · replace hf := (if_neg (show ¬ (¬ x5 = (6 : Int32)) from (fun z => z c7))).symm.trans hf
          refine w_iconst dX35_paragraphLine_232 (v := 1) (by decide) ?_
          refine w_goto 237 dX35_paragraphLine_233 (by decide) ?_
          exact (pX35_paragraphLine_b237 hd hdr hsL hf).to ⟨rfl, rfl, rfl, rfl, trivial⟩
    · replace hf := (if_neg (show ¬ (l4 ≤ l6) from c1)).symm.trans hf
      refine w_iload dX35_paragraphLine_70 rfl ?_
      refine w_iload dX35_paragraphLine_72 rfl ?_
      refine w_icmp_ge 90 dX35_paragraphLine_74 (by decide) (fun c8 => ?_) (fun c8 => ?_)
      · replace hf := (if_pos (show l5 ≤ l6 from c8)).symm.trans hf
        refine w_iload dX35_paragraphLine_90 rfl ?_
        refine w_iload dX35_paragraphLine_92 rfl ?_
        refine w_iconst dX35_paragraphLine_94 (v := 1) (by decide) ?_
        refine w_iadd dX35_paragraphLine_95 ?_
        refine w_icmp_ne 103 dX35_paragraphLine_96 (by decide) (fun c9 => ?_) (fun c9 => ?_)
        · replace hf := (if_pos (show ¬ l6 = (l5 + (1 : Int32)) from c9)).symm.trans hf
          refine w_iconst dX35_paragraphLine_103 (v := 4) (by decide) ?_
          exact (pX35_paragraphLine_b104 hd hdr hsL ih hf).to ⟨rfl, rfl, rfl, rfl, rfl, rfl, trivial⟩
        · replace hf := (if_neg (show ¬ (¬ l6 = (l5 + (1 : Int32))) from (fun z => z c9))).symm.trans hf
          refine w_iconst dX35_paragraphLine_99 (v := 2) (by decide) ?_
          refine w_goto 104 dX35_paragraphLine_100 (by decide) ?_
          exact (pX35_paragraphLine_b104 hd hdr hsL ih hf).to ⟨rfl, rfl, rfl, rfl, rfl, rfl, trivial⟩
      · replace hf := (if_neg (show ¬ (l5 ≤ l6) from c8)).symm.trans hf
        refine w_aload_n dX35_paragraphLine_77 rfl rfl ?_
        obtain ⟨a10, b11, hf⟩ := Option.bind_eq_some_iff.mp hf
        refine GX35_148 b11 dX35_paragraphLine_78 rfl ?_
        refine w_bipush dX35_paragraphLine_81 (v := 6) (by decide) ?_
        refine w_iload dX35_paragraphLine_83 rfl ?_
        refine w_imul dX35_paragraphLine_85 ?_
        obtain ⟨x12, b13, hf⟩ := Option.bind_eq_some_iff.mp hf
        refine x_rI b13 dX35_paragraphLine_86 ?_
        refine w_goto 104 dX35_paragraphLine_87 (by decide) ?_
        exact (pX35_paragraphLine_b104 hd hdr hsL ih hf).to ⟨rfl, rfl, rfl, rfl, rfl, rfl, trivial⟩
def fX35_paragraphLine_b50 (N : Nat) (sL : Nat → Int32 → Int64 → Int64 → eH → Option (Int32 × eH)) (l0 : Nat) (l1 : Int32) (l3 : Int32) (l4 : Int32) (s0 : Int32) (h : eH) : Option (Unit × eH) :=
  (g_A 34 h l0 6).bind fun a1 =>
  (g_A 36 h a1 40).bind fun a3 =>
  (r_I 100 h a3 l1).bind fun x5 =>
  fX35_paragraphLine_b63 N sL N l0 l1 l3 l4 s0 x5 h
theorem pX35_paragraphLine_b50 {w : eW} {d : Nat} {dr : Nat} (hd : dr + 12 ≤ d + 1) (hdr : 12 ≤ dr) {N : Nat} {sL : Nat → Int32 → Int64 → Int64 → eH → Option (Int32 × eH)} (hsL : ∀ a t0 t1 t2 h q, sL a t0 t1 t2 h = some q → wm w dr YX35_layBox [.ref a, .int t0, .long t1, .long t2] h (e_is (e_rn c_I q))) {l0 : Nat} {l1 : Int32} {l3 : Int32} {l4 : Int32} {s0 : Int32} {h : eH} {q} (hf : fX35_paragraphLine_b50 N sL l0 l1 l3 l4 s0 h = some q) : wp w (d + 1) YX35_paragraphLine 50 [some (.ref l0), some (.int l1), none, some (.int l3), some (.int l4), none, none, none, none, none] [.int s0] h (e_is (e_rn c_V q)) := by
  unfold fX35_paragraphLine_b50 at hf
  refine w_istore dX35_paragraphLine_50 (by decide) (ls' := [some (.ref l0), some (.int l1), none, some (.int l3), some (.int l4), some (.int s0), none, none, none, none]) rfl ?_
  refine w_aload_n dX35_paragraphLine_52 rfl rfl ?_
  obtain ⟨a1, b2, hf⟩ := Option.bind_eq_some_iff.mp hf
  refine GX35_35 b2 dX35_paragraphLine_53 rfl ?_
  obtain ⟨a3, b4, hf⟩ := Option.bind_eq_some_iff.mp hf
  refine GX35_945 b4 dX35_paragraphLine_56 rfl ?_
  refine w_iload_n dX35_paragraphLine_59 rfl rfl ?_
  obtain ⟨x5, b6, hf⟩ := Option.bind_eq_some_iff.mp hf
  refine x_rI b6 dX35_paragraphLine_60 ?_
  refine w_istore dX35_paragraphLine_61 (by decide) (ls' := [some (.ref l0), some (.int l1), none, some (.int l3), some (.int l4), some (.int s0), some (.int x5), none, none, none]) rfl ?_
  exact (pX35_paragraphLine_b63 hd hdr hsL N _ _ _ _ _ _ _ _ hf).to ⟨rfl, rfl, rfl, rfl, rfl, rfl, trivial⟩
def fX35_paragraphLine_b49 (N : Nat) (sL : Nat → Int32 → Int64 → Int64 → eH → Option (Int32 × eH)) (l0 : Nat) (l1 : Int32) (l2 : Int32) (l3 : Int32) (l4 : Int32) (h : eH) : Option (Unit × eH) :=
  fX35_paragraphLine_b50 N sL l0 l1 l3 l4 l2 h
theorem pX35_paragraphLine_b49 {w : eW} {d : Nat} {dr : Nat} (hd : dr + 12 ≤ d + 1) (hdr : 12 ≤ dr) {N : Nat} {sL : Nat → Int32 → Int64 → Int64 → eH → Option (Int32 × eH)} (hsL : ∀ a t0 t1 t2 h q, sL a t0 t1 t2 h = some q → wm w dr YX35_layBox [.ref a, .int t0, .long t1, .long t2] h (e_is (e_rn c_I q))) {l0 : Nat} {l1 : Int32} {l2 : Int32} {l3 : Int32} {l4 : Int32} {h : eH} {q} (hf : fX35_paragraphLine_b49 N sL l0 l1 l2 l3 l4 h = some q) : wp w (d + 1) YX35_paragraphLine 49 [some (.ref l0), some (.int l1), some (.int l2), some (.int l3), some (.int l4), none, none, none, none, none] [] h (e_is (e_rn c_V q)) := by
  unfold fX35_paragraphLine_b49 at hf
  refine w_iload_n dX35_paragraphLine_49 rfl rfl ?_
  exact (pX35_paragraphLine_b50 hd hdr hsL hf).to ⟨rfl, rfl, rfl, rfl, trivial⟩
def fX35_paragraphLine (N : Nat) (sL : Nat → Int32 → Int64 → Int64 → eH → Option (Int32 × eH)) (this : Nat) (p0 : Int32) (p1 : Int32) (p2 : Int32) (h : eH) : Option (Unit × eH) :=
  (p_V 34 h this 128 (.int (0 : Int32))).bind fun h1 =>
  (k_ok 34 h1 this).bind fun _ =>
  (fX35_lineGlue this (260 : Int32) h1).bind fun q4 =>
  (g_A 34 q4.2 this 6).bind fun a5 =>
  (g_A 36 q4.2 a5 39).bind fun a7 =>
  (r_I 100 q4.2 a7 p0).bind fun x9 =>
  if p1 ≤ 0 then
    fX35_paragraphLine_b49 N sL this p0 p1 p2 x9 q4.2
  else
    (g_A 34 q4.2 this 63).bind fun a12 =>
    (r_I 100 q4.2 a12 (((6 : Int32) * p1) - (6 : Int32))).bind fun x14 =>
    if ¬ x14 = (2 : Int32) then
      fX35_paragraphLine_b49 N sL this p0 p1 p2 x9 q4.2
    else
      fX35_paragraphLine_b50 N sL this p0 p2 x9 (p1 - (1 : Int32)) q4.2
theorem pX35_paragraphLine {w : eW} {d : Nat} {dr : Nat} (hd : dr + 12 ≤ d) (hdr : 12 ≤ dr) {N : Nat} {sL : Nat → Int32 → Int64 → Int64 → eH → Option (Int32 × eH)} (hsL : ∀ a t0 t1 t2 h q, sL a t0 t1 t2 h = some q → wm w dr YX35_layBox [.ref a, .int t0, .long t1, .long t2] h (e_is (e_rn c_I q))) {this : Nat} {p0 : Int32} {p1 : Int32} {p2 : Int32} {h : eH} {q} (hf : fX35_paragraphLine N sL this p0 p1 p2 h = some q) : wm w d YX35_paragraphLine [.ref this, .int p0, .int p1, .int p2] h (e_is (e_rn c_V q)) := by
  obtain ⟨d, rfl⟩ : ∃ e, d = e + 1 := ⟨d - 1, by omega⟩
  show wp w (d + 1) YX35_paragraphLine 0 [some (.ref this), some (.int p0), some (.int p1), some (.int p2), none, none, none, none, none, none] [] h _
  unfold fX35_paragraphLine at hf
  refine w_aload_n dX35_paragraphLine_0 rfl rfl ?_
  refine w_iconst dX35_paragraphLine_1 (v := 0) (by decide) ?_
  obtain ⟨h1, b2, hf⟩ := Option.bind_eq_some_iff.mp hf
  refine SX35_936 b2 dX35_paragraphLine_2 rfl ?_
  refine w_aload_n dX35_paragraphLine_5 rfl rfl ?_
  refine w_sipush dX35_paragraphLine_6 (v := 260) (by decide) ?_
  obtain ⟨_, b3, hf⟩ := Option.bind_eq_some_iff.mp hf
  refine x_cnV hf (e_stV (Yc := YX35_lineGlue) (ci := 34) (av := [.int (260 : Int32)]) (st := []) dX35_paragraphLine_9 q5879 mX35_lineGlue rfl (k_ok_some b3).1 (k_ok_some b3).2) mX35_lineGlue.2.2.1 mX35_lineGlue.2.2.2.2.1 (Nat.le_of_ble_eq_true rfl) (Nat.le_of_ble_eq_true rfl) (fun q hq => pX35_lineGlue (by omega) hq) (fun q4 hf => ?_)
  refine w_aload_n dX35_paragraphLine_12 rfl rfl ?_
  obtain ⟨a5, b6, hf⟩ := Option.bind_eq_some_iff.mp hf
  refine GX35_35 b6 dX35_paragraphLine_13 rfl ?_
  obtain ⟨a7, b8, hf⟩ := Option.bind_eq_some_iff.mp hf
  refine GX35_930 b8 dX35_paragraphLine_16 rfl ?_
  refine w_iload_n dX35_paragraphLine_19 rfl rfl ?_
  obtain ⟨x9, b10, hf⟩ := Option.bind_eq_some_iff.mp hf
  refine x_rI b10 dX35_paragraphLine_20 ?_
  refine w_istore dX35_paragraphLine_21 (by decide) (ls' := [some (.ref this), some (.int p0), some (.int p1), some (.int p2), some (.int x9), none, none, none, none, none]) rfl ?_
  refine w_iload_n dX35_paragraphLine_23 rfl rfl ?_
  refine w_if_le 49 dX35_paragraphLine_24 (by decide) (fun c11 => ?_) (fun c11 => ?_)
  · replace hf := (if_pos (show p1 ≤ 0 from c11)).symm.trans hf
    exact (pX35_paragraphLine_b49 hd hdr hsL hf).to ⟨rfl, rfl, rfl, rfl, rfl, trivial⟩
  · replace hf := (if_neg (show ¬ (p1 ≤ 0) from c11)).symm.trans hf
    refine w_aload_n dX35_paragraphLine_27 rfl rfl ?_
    obtain ⟨a12, b13, hf⟩ := Option.bind_eq_some_iff.mp hf
    refine GX35_148 b13 dX35_paragraphLine_28 rfl ?_
    refine w_bipush dX35_paragraphLine_31 (v := 6) (by decide) ?_
    refine w_iload_n dX35_paragraphLine_33 rfl rfl ?_
    refine w_imul dX35_paragraphLine_34 ?_
    refine w_bipush dX35_paragraphLine_35 (v := 6) (by decide) ?_
    refine w_isub dX35_paragraphLine_37 ?_
    obtain ⟨x14, b15, hf⟩ := Option.bind_eq_some_iff.mp hf
    refine x_rI b15 dX35_paragraphLine_38 ?_
    refine w_iconst dX35_paragraphLine_39 (v := 2) (by decide) ?_
    refine w_icmp_ne 49 dX35_paragraphLine_40 (by decide) (fun c16 => ?_) (fun c16 => ?_)
    · replace hf := (if_pos (show ¬ x14 = (2 : Int32) from c16)).symm.trans hf
      exact (pX35_paragraphLine_b49 hd hdr hsL hf).to ⟨rfl, rfl, rfl, rfl, rfl, trivial⟩
    · replace hf := (if_neg (show ¬ (¬ x14 = (2 : Int32)) from (fun z => z c16))).symm.trans hf
      refine w_iload_n dX35_paragraphLine_43 rfl rfl ?_
      refine w_iconst dX35_paragraphLine_44 (v := 1) (by decide) ?_
      refine w_isub dX35_paragraphLine_45 ?_
      refine w_goto 50 dX35_paragraphLine_46 (by decide) ?_
      exact (pX35_paragraphLine_b50 hd hdr hsL hf).to ⟨rfl, rfl, rfl, rfl, trivial⟩
abbrev cX35_endParagraph : ByteArray := prog_37_method_127_code
def yX35_endParagraph : MethodName := ⟨RX35, "endParagraph", "()V"⟩
def YX35_endParagraph : eY := (yX35_endParagraph, cX35_endParagraph, 6, none, [])
theorem mX35_endParagraph : e_mv YX35_endParagraph RX35 0 := ⟨q5744, qs366, q5745, by decide, by decide +kernel, (e_sig (by decide +kernel))⟩
theorem dX35_endParagraph_0 : decode cX35_endParagraph 0 = .ok (.aload_n 0, 1) := dc_42 (by decide +kernel)
theorem dX35_endParagraph_1 : decode cX35_endParagraph 1 = .ok (.invokevirtual 873, 3) := dc_182 (a := 3) (b := 105) (n := 873) (by decide +kernel)
theorem dX35_endParagraph_4 : decode cX35_endParagraph 4 = .ok (.aload_n 0, 1) := dc_42 (by decide +kernel)
theorem dX35_endParagraph_5 : decode cX35_endParagraph 5 = .ok (.getfield 321, 3) := dc_180 (a := 1) (b := 65) (n := 321) (by decide +kernel)
theorem dX35_endParagraph_8 : decode cX35_endParagraph 8 = .ok (.ifCond .le 4, 3) := dc_158 (a := 0) (b := 4) (v := 4) (by decide +kernel)
theorem dX35_endParagraph_11 : decode cX35_endParagraph 11 = .ok (.return_, 1) := dc_177 (by decide +kernel)
theorem dX35_endParagraph_12 : decode cX35_endParagraph 12 = .ok (.aload_n 0, 1) := dc_42 (by decide +kernel)
theorem dX35_endParagraph_13 : decode cX35_endParagraph 13 = .ok (.getfield 130, 3) := dc_180 (a := 0) (b := 130) (n := 130) (by decide +kernel)
theorem dX35_endParagraph_16 : decode cX35_endParagraph 16 = .ok (.aload_n 0, 1) := dc_42 (by decide +kernel)
theorem dX35_endParagraph_17 : decode cX35_endParagraph 17 = .ok (.getfield 366, 3) := dc_180 (a := 1) (b := 110) (n := 366) (by decide +kernel)
theorem dX35_endParagraph_20 : decode cX35_endParagraph 20 = .ok (.iconst 1, 1) := dc_4 (by decide +kernel)
theorem dX35_endParagraph_21 : decode cX35_endParagraph 21 = .ok (.isub, 1) := dc_100 (by decide +kernel)
theorem dX35_endParagraph_22 : decode cX35_endParagraph 22 = .ok (.iaload, 1) := dc_46 (by decide +kernel)
theorem dX35_endParagraph_23 : decode cX35_endParagraph 23 = .ok (.istore_n 1, 1) := dc_60 (by decide +kernel)
theorem dX35_endParagraph_24 : decode cX35_endParagraph 24 = .ok (.aload_n 0, 1) := dc_42 (by decide +kernel)
theorem dX35_endParagraph_25 : decode cX35_endParagraph 25 = .ok (.getfield 370, 3) := dc_180 (a := 1) (b := 114) (n := 370) (by decide +kernel)
theorem dX35_endParagraph_28 : decode cX35_endParagraph 28 = .ok (.iload_n 1, 1) := dc_27 (by decide +kernel)
theorem dX35_endParagraph_29 : decode cX35_endParagraph 29 = .ok (.isub, 1) := dc_100 (by decide +kernel)
theorem dX35_endParagraph_30 : decode cX35_endParagraph 30 = .ok (.istore_n 2, 1) := dc_61 (by decide +kernel)
theorem dX35_endParagraph_31 : decode cX35_endParagraph 31 = .ok (.aload_n 0, 1) := dc_42 (by decide +kernel)
theorem dX35_endParagraph_32 : decode cX35_endParagraph 32 = .ok (.dup, 1) := dc_89 (by decide +kernel)
theorem dX35_endParagraph_33 : decode cX35_endParagraph 33 = .ok (.getfield 366, 3) := dc_180 (a := 1) (b := 110) (n := 366) (by decide +kernel)
theorem dX35_endParagraph_36 : decode cX35_endParagraph 36 = .ok (.iconst 1, 1) := dc_4 (by decide +kernel)
theorem dX35_endParagraph_37 : decode cX35_endParagraph 37 = .ok (.isub, 1) := dc_100 (by decide +kernel)
theorem dX35_endParagraph_38 : decode cX35_endParagraph 38 = .ok (.putfield 366, 3) := dc_181 (a := 1) (b := 110) (n := 366) (by decide +kernel)
theorem dX35_endParagraph_41 : decode cX35_endParagraph 41 = .ok (.aload_n 0, 1) := dc_42 (by decide +kernel)
theorem dX35_endParagraph_42 : decode cX35_endParagraph 42 = .ok (.iload_n 1, 1) := dc_27 (by decide +kernel)
theorem dX35_endParagraph_43 : decode cX35_endParagraph 43 = .ok (.putfield 370, 3) := dc_181 (a := 1) (b := 114) (n := 370) (by decide +kernel)
theorem dX35_endParagraph_46 : decode cX35_endParagraph 46 = .ok (.iload_n 2, 1) := dc_28 (by decide +kernel)
theorem dX35_endParagraph_47 : decode cX35_endParagraph 47 = .ok (.ifCond .ne 4, 3) := dc_154 (a := 0) (b := 4) (v := 4) (by decide +kernel)
theorem dX35_endParagraph_50 : decode cX35_endParagraph 50 = .ok (.return_, 1) := dc_177 (by decide +kernel)
theorem dX35_endParagraph_51 : decode cX35_endParagraph 51 = .ok (.iload_n 2, 1) := dc_28 (by decide +kernel)
theorem dX35_endParagraph_52 : decode cX35_endParagraph 52 = .ok (.sipush 2000, 3) := dc_17 (a := 7) (b := 208) (v := 2000) (by decide +kernel)
theorem dX35_endParagraph_55 : decode cX35_endParagraph 55 = .ok (.if_icmp .le 9, 3) := dc_164 (a := 0) (b := 9) (v := 9) (by decide +kernel)
theorem dX35_endParagraph_58 : decode cX35_endParagraph 58 = .ok (.aload_n 0, 1) := dc_42 (by decide +kernel)
theorem dX35_endParagraph_59 : decode cX35_endParagraph 59 = .ok (.iconst 2, 1) := dc_5 (by decide +kernel)
theorem dX35_endParagraph_60 : decode cX35_endParagraph 60 = .ok (.invokevirtual 428, 3) := dc_182 (a := 1) (b := 172) (n := 428) (by decide +kernel)
theorem dX35_endParagraph_63 : decode cX35_endParagraph 63 = .ok (.return_, 1) := dc_177 (by decide +kernel)
theorem dX35_endParagraph_64 : decode cX35_endParagraph 64 = .ok (.iconst 0, 1) := dc_3 (by decide +kernel)
theorem dX35_endParagraph_65 : decode cX35_endParagraph 65 = .ok (.istore_n 3, 1) := dc_62 (by decide +kernel)
theorem dX35_endParagraph_66 : decode cX35_endParagraph 66 = .ok (.iload_n 3, 1) := dc_29 (by decide +kernel)
theorem dX35_endParagraph_67 : decode cX35_endParagraph 67 = .ok (.bipush 6, 2) := dc_16 (a := 6) (v := 6) (by decide +kernel)
theorem dX35_endParagraph_69 : decode cX35_endParagraph 69 = .ok (.iload_n 2, 1) := dc_28 (by decide +kernel)
theorem dX35_endParagraph_70 : decode cX35_endParagraph 70 = .ok (.imul, 1) := dc_104 (by decide +kernel)
theorem dX35_endParagraph_71 : decode cX35_endParagraph 71 = .ok (.if_icmp .ge 26, 3) := dc_162 (a := 0) (b := 26) (v := 26) (by decide +kernel)
theorem dX35_endParagraph_74 : decode cX35_endParagraph 74 = .ok (.aload_n 0, 1) := dc_42 (by decide +kernel)
theorem dX35_endParagraph_75 : decode cX35_endParagraph 75 = .ok (.getfield 148, 3) := dc_180 (a := 0) (b := 148) (n := 148) (by decide +kernel)
theorem dX35_endParagraph_78 : decode cX35_endParagraph 78 = .ok (.iload_n 3, 1) := dc_29 (by decide +kernel)
theorem dX35_endParagraph_79 : decode cX35_endParagraph 79 = .ok (.aload_n 0, 1) := dc_42 (by decide +kernel)
theorem dX35_endParagraph_80 : decode cX35_endParagraph 80 = .ok (.getfield 136, 3) := dc_180 (a := 0) (b := 136) (n := 136) (by decide +kernel)
theorem dX35_endParagraph_83 : decode cX35_endParagraph 83 = .ok (.bipush 6, 2) := dc_16 (a := 6) (v := 6) (by decide +kernel)
theorem dX35_endParagraph_85 : decode cX35_endParagraph 85 = .ok (.iload_n 1, 1) := dc_27 (by decide +kernel)
theorem dX35_endParagraph_86 : decode cX35_endParagraph 86 = .ok (.imul, 1) := dc_104 (by decide +kernel)
theorem dX35_endParagraph_87 : decode cX35_endParagraph 87 = .ok (.iload_n 3, 1) := dc_29 (by decide +kernel)
theorem dX35_endParagraph_88 : decode cX35_endParagraph 88 = .ok (.iadd, 1) := dc_96 (by decide +kernel)
theorem dX35_endParagraph_89 : decode cX35_endParagraph 89 = .ok (.iaload, 1) := dc_46 (by decide +kernel)
theorem dX35_endParagraph_90 : decode cX35_endParagraph 90 = .ok (.iastore, 1) := dc_79 (by decide +kernel)
theorem dX35_endParagraph_91 : decode cX35_endParagraph 91 = .ok (.iinc 3 1, 3) := dc_132 (a := 3) (b := 1) (v := 1) (by decide +kernel)
theorem dX35_endParagraph_94 : decode cX35_endParagraph 94 = .ok (.goto (-28), 3) := dc_167 (a := 255) (b := 228) (v := -28) (by decide +kernel)
theorem dX35_endParagraph_97 : decode cX35_endParagraph 97 = .ok (.aload_n 0, 1) := dc_42 (by decide +kernel)
theorem dX35_endParagraph_98 : decode cX35_endParagraph 98 = .ok (.iload_n 2, 1) := dc_28 (by decide +kernel)
theorem dX35_endParagraph_99 : decode cX35_endParagraph 99 = .ok (.invokevirtual 920, 3) := dc_182 (a := 3) (b := 152) (n := 920) (by decide +kernel)
theorem dX35_endParagraph_102 : decode cX35_endParagraph 102 = .ok (.aload_n 0, 1) := dc_42 (by decide +kernel)
theorem dX35_endParagraph_103 : decode cX35_endParagraph 103 = .ok (.getfield 35, 3) := dc_180 (a := 0) (b := 35) (n := 35) (by decide +kernel)
theorem dX35_endParagraph_106 : decode cX35_endParagraph 106 = .ok (.invokevirtual 923, 3) := dc_182 (a := 3) (b := 155) (n := 923) (by decide +kernel)
theorem dX35_endParagraph_109 : decode cX35_endParagraph 109 = .ok (.istore_n 3, 1) := dc_62 (by decide +kernel)
theorem dX35_endParagraph_110 : decode cX35_endParagraph 110 = .ok (.iload_n 3, 1) := dc_29 (by decide +kernel)
theorem dX35_endParagraph_111 : decode cX35_endParagraph 111 = .ok (.ifCond .ge 11, 3) := dc_156 (a := 0) (b := 11) (v := 11) (by decide +kernel)
theorem dX35_endParagraph_114 : decode cX35_endParagraph 114 = .ok (.aload_n 0, 1) := dc_42 (by decide +kernel)
theorem dX35_endParagraph_115 : decode cX35_endParagraph 115 = .ok (.iconst 2, 1) := dc_5 (by decide +kernel)
theorem dX35_endParagraph_116 : decode cX35_endParagraph 116 = .ok (.invokevirtual 428, 3) := dc_182 (a := 1) (b := 172) (n := 428) (by decide +kernel)
theorem dX35_endParagraph_119 : decode cX35_endParagraph 119 = .ok (.goto 19, 3) := dc_167 (a := 0) (b := 19) (v := 19) (by decide +kernel)
theorem dX35_endParagraph_122 : decode cX35_endParagraph 122 = .ok (.aload_n 0, 1) := dc_42 (by decide +kernel)
theorem dX35_endParagraph_123 : decode cX35_endParagraph 123 = .ok (.getfield 35, 3) := dc_180 (a := 0) (b := 35) (n := 35) (by decide +kernel)
theorem dX35_endParagraph_126 : decode cX35_endParagraph 126 = .ok (.getfield 926, 3) := dc_180 (a := 3) (b := 158) (n := 926) (by decide +kernel)
theorem dX35_endParagraph_129 : decode cX35_endParagraph 129 = .ok (.ifCond .le 9, 3) := dc_158 (a := 0) (b := 9) (v := 9) (by decide +kernel)
theorem dX35_endParagraph_132 : decode cX35_endParagraph 132 = .ok (.aload_n 0, 1) := dc_42 (by decide +kernel)
theorem dX35_endParagraph_133 : decode cX35_endParagraph 133 = .ok (.bipush 16, 2) := dc_16 (a := 16) (v := 16) (by decide +kernel)
theorem dX35_endParagraph_135 : decode cX35_endParagraph 135 = .ok (.invokevirtual 428, 3) := dc_182 (a := 1) (b := 172) (n := 428) (by decide +kernel)
theorem dX35_endParagraph_138 : decode cX35_endParagraph 138 = .ok (.aload_n 0, 1) := dc_42 (by decide +kernel)
theorem dX35_endParagraph_139 : decode cX35_endParagraph 139 = .ok (.getfield 321, 3) := dc_180 (a := 1) (b := 65) (n := 321) (by decide +kernel)
theorem dX35_endParagraph_142 : decode cX35_endParagraph 142 = .ok (.ifCond .le 4, 3) := dc_158 (a := 0) (b := 4) (v := 4) (by decide +kernel)
theorem dX35_endParagraph_145 : decode cX35_endParagraph 145 = .ok (.return_, 1) := dc_177 (by decide +kernel)
theorem dX35_endParagraph_146 : decode cX35_endParagraph 146 = .ok (.aload_n 0, 1) := dc_42 (by decide +kernel)
theorem dX35_endParagraph_147 : decode cX35_endParagraph 147 = .ok (.sipush 1984, 3) := dc_17 (a := 7) (b := 192) (v := 1984) (by decide +kernel)
theorem dX35_endParagraph_150 : decode cX35_endParagraph 150 = .ok (.iconst 0, 1) := dc_3 (by decide +kernel)
theorem dX35_endParagraph_151 : decode cX35_endParagraph 151 = .ok (.iconst 0, 1) := dc_3 (by decide +kernel)
theorem dX35_endParagraph_152 : decode cX35_endParagraph 152 = .ok (.invokevirtual 477, 3) := dc_182 (a := 1) (b := 221) (n := 477) (by decide +kernel)
theorem dX35_endParagraph_155 : decode cX35_endParagraph 155 = .ok (.aload_n 0, 1) := dc_42 (by decide +kernel)
theorem dX35_endParagraph_156 : decode cX35_endParagraph 156 = .ok (.aload_n 0, 1) := dc_42 (by decide +kernel)
theorem dX35_endParagraph_157 : decode cX35_endParagraph 157 = .ok (.getfield 309, 3) := dc_180 (a := 1) (b := 53) (n := 309) (by decide +kernel)
theorem dX35_endParagraph_160 : decode cX35_endParagraph 160 = .ok (.iload_n 3, 1) := dc_29 (by decide +kernel)
theorem dX35_endParagraph_161 : decode cX35_endParagraph 161 = .ok (.iadd, 1) := dc_96 (by decide +kernel)
theorem dX35_endParagraph_162 : decode cX35_endParagraph 162 = .ok (.putfield 309, 3) := dc_181 (a := 1) (b := 53) (n := 309) (by decide +kernel)
theorem dX35_endParagraph_165 : decode cX35_endParagraph 165 = .ok (.aload_n 0, 1) := dc_42 (by decide +kernel)
theorem dX35_endParagraph_166 : decode cX35_endParagraph 166 = .ok (.aload_n 0, 1) := dc_42 (by decide +kernel)
theorem dX35_endParagraph_167 : decode cX35_endParagraph 167 = .ok (.getfield 318, 3) := dc_180 (a := 1) (b := 62) (n := 318) (by decide +kernel)
theorem dX35_endParagraph_170 : decode cX35_endParagraph 170 = .ok (.aload_n 0, 1) := dc_42 (by decide +kernel)
theorem dX35_endParagraph_171 : decode cX35_endParagraph 171 = .ok (.getfield 35, 3) := dc_180 (a := 0) (b := 35) (n := 35) (by decide +kernel)
theorem dX35_endParagraph_174 : decode cX35_endParagraph 174 = .ok (.invokevirtual 927, 3) := dc_182 (a := 3) (b := 159) (n := 927) (by decide +kernel)
theorem dX35_endParagraph_177 : decode cX35_endParagraph 177 = .ok (.iadd, 1) := dc_96 (by decide +kernel)
theorem dX35_endParagraph_178 : decode cX35_endParagraph 178 = .ok (.putfield 318, 3) := dc_181 (a := 1) (b := 62) (n := 318) (by decide +kernel)
theorem dX35_endParagraph_181 : decode cX35_endParagraph 181 = .ok (.iconst 0, 1) := dc_3 (by decide +kernel)
theorem dX35_endParagraph_182 : decode cX35_endParagraph 182 = .ok (.istore 4, 2) := dc_54 (a := 4) (by decide +kernel)
theorem dX35_endParagraph_184 : decode cX35_endParagraph 184 = .ok (.iload 4, 2) := dc_21 (a := 4) (by decide +kernel)
theorem dX35_endParagraph_186 : decode cX35_endParagraph 186 = .ok (.iload_n 3, 1) := dc_29 (by decide +kernel)
theorem dX35_endParagraph_187 : decode cX35_endParagraph 187 = .ok (.if_icmp .ge 59, 3) := dc_162 (a := 0) (b := 59) (v := 59) (by decide +kernel)
theorem dX35_endParagraph_190 : decode cX35_endParagraph 190 = .ok (.aload_n 0, 1) := dc_42 (by decide +kernel)
theorem dX35_endParagraph_191 : decode cX35_endParagraph 191 = .ok (.getfield 35, 3) := dc_180 (a := 0) (b := 35) (n := 35) (by decide +kernel)
theorem dX35_endParagraph_194 : decode cX35_endParagraph 194 = .ok (.getfield 930, 3) := dc_180 (a := 3) (b := 162) (n := 930) (by decide +kernel)
theorem dX35_endParagraph_197 : decode cX35_endParagraph 197 = .ok (.iload 4, 2) := dc_21 (a := 4) (by decide +kernel)
theorem dX35_endParagraph_199 : decode cX35_endParagraph 199 = .ok (.iaload, 1) := dc_46 (by decide +kernel)
theorem dX35_endParagraph_200 : decode cX35_endParagraph 200 = .ok (.istore 5, 2) := dc_54 (a := 5) (by decide +kernel)
theorem dX35_endParagraph_202 : decode cX35_endParagraph 202 = .ok (.aload_n 0, 1) := dc_42 (by decide +kernel)
theorem dX35_endParagraph_203 : decode cX35_endParagraph 203 = .ok (.iload 5, 2) := dc_21 (a := 5) (by decide +kernel)
theorem dX35_endParagraph_205 : decode cX35_endParagraph 205 = .ok (.iload_n 2, 1) := dc_28 (by decide +kernel)
theorem dX35_endParagraph_206 : decode cX35_endParagraph 206 = .ok (.if_icmp .ge 27, 3) := dc_162 (a := 0) (b := 27) (v := 27) (by decide +kernel)
theorem dX35_endParagraph_209 : decode cX35_endParagraph 209 = .ok (.aload_n 0, 1) := dc_42 (by decide +kernel)
theorem dX35_endParagraph_210 : decode cX35_endParagraph 210 = .ok (.getfield 148, 3) := dc_180 (a := 0) (b := 148) (n := 148) (by decide +kernel)
theorem dX35_endParagraph_213 : decode cX35_endParagraph 213 = .ok (.bipush 6, 2) := dc_16 (a := 6) (v := 6) (by decide +kernel)
theorem dX35_endParagraph_215 : decode cX35_endParagraph 215 = .ok (.iload 5, 2) := dc_21 (a := 5) (by decide +kernel)
theorem dX35_endParagraph_217 : decode cX35_endParagraph 217 = .ok (.imul, 1) := dc_104 (by decide +kernel)
theorem dX35_endParagraph_218 : decode cX35_endParagraph 218 = .ok (.iaload, 1) := dc_46 (by decide +kernel)
theorem dX35_endParagraph_219 : decode cX35_endParagraph 219 = .ok (.bipush 6, 2) := dc_16 (a := 6) (v := 6) (by decide +kernel)
theorem dX35_endParagraph_221 : decode cX35_endParagraph 221 = .ok (.if_icmp .ne 12, 3) := dc_160 (a := 0) (b := 12) (v := 12) (by decide +kernel)
theorem dX35_endParagraph_224 : decode cX35_endParagraph 224 = .ok (.aload_n 0, 1) := dc_42 (by decide +kernel)
theorem dX35_endParagraph_225 : decode cX35_endParagraph 225 = .ok (.getfield 315, 3) := dc_180 (a := 1) (b := 59) (n := 315) (by decide +kernel)
theorem dX35_endParagraph_228 : decode cX35_endParagraph 228 = .ok (.iconst 1, 1) := dc_4 (by decide +kernel)
theorem dX35_endParagraph_229 : decode cX35_endParagraph 229 = .ok (.iadd, 1) := dc_96 (by decide +kernel)
theorem dX35_endParagraph_230 : decode cX35_endParagraph 230 = .ok (.goto 7, 3) := dc_167 (a := 0) (b := 7) (v := 7) (by decide +kernel)
theorem dX35_endParagraph_233 : decode cX35_endParagraph 233 = .ok (.aload_n 0, 1) := dc_42 (by decide +kernel)
theorem dX35_endParagraph_234 : decode cX35_endParagraph 234 = .ok (.getfield 315, 3) := dc_180 (a := 1) (b := 59) (n := 315) (by decide +kernel)
theorem dX35_endParagraph_237 : decode cX35_endParagraph 237 = .ok (.putfield 315, 3) := dc_181 (a := 1) (b := 59) (n := 315) (by decide +kernel)
theorem dX35_endParagraph_240 : decode cX35_endParagraph 240 = .ok (.iinc 4 1, 3) := dc_132 (a := 4) (b := 1) (v := 1) (by decide +kernel)
theorem dX35_endParagraph_243 : decode cX35_endParagraph 243 = .ok (.goto (-59), 3) := dc_167 (a := 255) (b := 197) (v := -59) (by decide +kernel)
theorem dX35_endParagraph_246 : decode cX35_endParagraph 246 = .ok (.iconst 0, 1) := dc_3 (by decide +kernel)
theorem dX35_endParagraph_247 : decode cX35_endParagraph 247 = .ok (.istore 4, 2) := dc_54 (a := 4) (by decide +kernel)
theorem dX35_endParagraph_249 : decode cX35_endParagraph 249 = .ok (.iload 4, 2) := dc_21 (a := 4) (by decide +kernel)
theorem dX35_endParagraph_251 : decode cX35_endParagraph 251 = .ok (.iload_n 3, 1) := dc_29 (by decide +kernel)
theorem dX35_endParagraph_252 : decode cX35_endParagraph 252 = .ok (.if_icmp .ge 24, 3) := dc_162 (a := 0) (b := 24) (v := 24) (by decide +kernel)
theorem dX35_endParagraph_255 : decode cX35_endParagraph 255 = .ok (.aload_n 0, 1) := dc_42 (by decide +kernel)
theorem dX35_endParagraph_256 : decode cX35_endParagraph 256 = .ok (.getfield 321, 3) := dc_180 (a := 1) (b := 65) (n := 321) (by decide +kernel)
theorem dX35_endParagraph_259 : decode cX35_endParagraph 259 = .ok (.ifCond .ne 17, 3) := dc_154 (a := 0) (b := 17) (v := 17) (by decide +kernel)
theorem dX35_endParagraph_262 : decode cX35_endParagraph 262 = .ok (.aload_n 0, 1) := dc_42 (by decide +kernel)
theorem dX35_endParagraph_263 : decode cX35_endParagraph 263 = .ok (.iload 4, 2) := dc_21 (a := 4) (by decide +kernel)
theorem dX35_endParagraph_265 : decode cX35_endParagraph 265 = .ok (.iload_n 2, 1) := dc_28 (by decide +kernel)
theorem dX35_endParagraph_266 : decode cX35_endParagraph 266 = .ok (.iload_n 3, 1) := dc_29 (by decide +kernel)
theorem dX35_endParagraph_267 : decode cX35_endParagraph 267 = .ok (.invokevirtual 933, 3) := dc_182 (a := 3) (b := 165) (n := 933) (by decide +kernel)
theorem dX35_endParagraph_270 : decode cX35_endParagraph 270 = .ok (.iinc 4 1, 3) := dc_132 (a := 4) (b := 1) (v := 1) (by decide +kernel)
theorem dX35_endParagraph_273 : decode cX35_endParagraph 273 = .ok (.goto (-24), 3) := dc_167 (a := 255) (b := 232) (v := -24) (by decide +kernel)
theorem dX35_endParagraph_276 : decode cX35_endParagraph 276 = .ok (.return_, 1) := dc_177 (by decide +kernel)
theorem GX35_926 {w : eW} {d : Nat} {Y : eY} {pc : Nat} {ls : eL} {st : List Value} {h : eH} {Q : eO → eH → Prop} {a : Nat} {x : Int32} (hf : g_I 36 h a 0 = some x) (hd : decode Y.2.1 pc = .ok (.getfield 926, 3)) (hY : Y.1.cls = RX35) (kk : wp w d Y (pc + 3) ls (.int x :: st) h Q) : wp w d Y pc ls (.ref a :: st) h Q := x_gIN (ci := 36) (k := 0) hf hd rfl (by decide) (by rw [hY]; exact q4227) kk
def fX35_endParagraph_b237 (N : Nat) (sL : Nat → Int32 → Int64 → Int64 → eH → Option (Int32 × eH)) (k184 : Nat → Int32 → Int32 → Int32 → eH → Option (Unit × eH)) (l0 : Nat) (l2 : Int32) (l3 : Int32) (l4 : Int32) (s0 : Nat) (s1 : Int32) (h : eH) : Option (Unit × eH) :=
  (p_V 34 h s0 112 (.int s1)).bind fun h1 =>
  k184 l0 l2 l3 (l4 + (1 : Int32)) h1
theorem pX35_endParagraph_b237 {w : eW} {d : Nat} {dr : Nat} (hd : dr + 13 ≤ d + 1) (hdr : 12 ≤ dr) {N : Nat} {sL : Nat → Int32 → Int64 → Int64 → eH → Option (Int32 × eH)} (hsL : ∀ a t0 t1 t2 h q, sL a t0 t1 t2 h = some q → wm w dr YX35_layBox [.ref a, .int t0, .long t1, .long t2] h (e_is (e_rn c_I q))) {k184 : Nat → Int32 → Int32 → Int32 → eH → Option (Unit × eH)} (hk184 : ∀ l0 l2 l3 l4 h q, k184 l0 l2 l3 l4 h = some q → wp w (d + 1) YX35_endParagraph 184 [some (.ref l0), none, some (.int l2), some (.int l3), some (.int l4), none] [] h (e_is (e_rn c_V q))) {l0 : Nat} {l2 : Int32} {l3 : Int32} {l4 : Int32} {s0 : Nat} {s1 : Int32} {h : eH} {q} (hf : fX35_endParagraph_b237 N sL k184 l0 l2 l3 l4 s0 s1 h = some q) : wp w (d + 1) YX35_endParagraph 237 [some (.ref l0), none, some (.int l2), some (.int l3), some (.int l4), none] [.int s1, .ref s0] h (e_is (e_rn c_V q)) := by
  unfold fX35_endParagraph_b237 at hf
  obtain ⟨h1, b2, hf⟩ := Option.bind_eq_some_iff.mp hf
  refine SX35_315 b2 dX35_endParagraph_237 rfl ?_
  refine w_iinc dX35_endParagraph_240 (v := (l4 + (1 : Int32))) rfl rfl (by decide) (ls' := [some (.ref l0), none, some (.int l2), some (.int l3), some (.int (l4 + (1 : Int32))), none]) rfl ?_
  refine w_goto 184 dX35_endParagraph_243 (by decide) ?_
  exact (hk184 _ _ _ _ _ _ hf).to ⟨rfl, rfl, rfl, rfl, trivial⟩
def fX35_endParagraph_b233 (N : Nat) (sL : Nat → Int32 → Int64 → Int64 → eH → Option (Int32 × eH)) (k184 : Nat → Int32 → Int32 → Int32 → eH → Option (Unit × eH)) (l0 : Nat) (l2 : Int32) (l3 : Int32) (l4 : Int32) (s0 : Nat) (h : eH) : Option (Unit × eH) :=
  (g_I 34 h l0 112).bind fun x1 =>
  fX35_endParagraph_b237 N sL k184 l0 l2 l3 l4 s0 x1 h
theorem pX35_endParagraph_b233 {w : eW} {d : Nat} {dr : Nat} (hd : dr + 13 ≤ d + 1) (hdr : 12 ≤ dr) {N : Nat} {sL : Nat → Int32 → Int64 → Int64 → eH → Option (Int32 × eH)} (hsL : ∀ a t0 t1 t2 h q, sL a t0 t1 t2 h = some q → wm w dr YX35_layBox [.ref a, .int t0, .long t1, .long t2] h (e_is (e_rn c_I q))) {k184 : Nat → Int32 → Int32 → Int32 → eH → Option (Unit × eH)} (hk184 : ∀ l0 l2 l3 l4 h q, k184 l0 l2 l3 l4 h = some q → wp w (d + 1) YX35_endParagraph 184 [some (.ref l0), none, some (.int l2), some (.int l3), some (.int l4), none] [] h (e_is (e_rn c_V q))) {l0 : Nat} {l2 : Int32} {l3 : Int32} {l4 : Int32} {s0 : Nat} {h : eH} {q} (hf : fX35_endParagraph_b233 N sL k184 l0 l2 l3 l4 s0 h = some q) : wp w (d + 1) YX35_endParagraph 233 [some (.ref l0), none, some (.int l2), some (.int l3), some (.int l4), none] [.ref s0] h (e_is (e_rn c_V q)) := by
  unfold fX35_endParagraph_b233 at hf
  refine w_aload_n dX35_endParagraph_233 rfl rfl ?_
  obtain ⟨x1, b2, hf⟩ := Option.bind_eq_some_iff.mp hf
  refine GX35_315 b2 dX35_endParagraph_234 rfl ?_
  exact (pX35_endParagraph_b237 hd hdr hsL hk184 hf).to ⟨rfl, rfl, rfl, rfl, trivial⟩
def fX35_endParagraph_b276 (N : Nat) (sL : Nat → Int32 → Int64 → Int64 → eH → Option (Int32 × eH))  (h : eH) : Option (Unit × eH) :=
  some ((), h)
theorem pX35_endParagraph_b276 {w : eW} {d : Nat} {dr : Nat} (hd : dr + 13 ≤ d + 1) (hdr : 12 ≤ dr) {N : Nat} {sL : Nat → Int32 → Int64 → Int64 → eH → Option (Int32 × eH)} (hsL : ∀ a t0 t1 t2 h q, sL a t0 t1 t2 h = some q → wm w dr YX35_layBox [.ref a, .int t0, .long t1, .long t2] h (e_is (e_rn c_I q)))  {h : eH} {q} (hf : fX35_endParagraph_b276 N sL h = some q) : wp w (d + 1) YX35_endParagraph 276 [none, none, none, none, none, none] [] h (e_is (e_rn c_V q)) := by
  unfold fX35_endParagraph_b276 at hf
  cases hf
  exact w_vret dX35_endParagraph_276 rfl rfl
def fX35_endParagraph_b249 (N : Nat) (sL : Nat → Int32 → Int64 → Int64 → eH → Option (Int32 × eH)) : Nat → Nat → Int32 → Int32 → Int32 → eH → Option (Unit × eH)
  | 0, _, _, _, _, _ => none
  | n + 1, l0, l2, l3, l4, h =>
    if l3 ≤ l4 then
      fX35_endParagraph_b276 N sL h
    else
      (g_I 34 h l0 46).bind fun x2 =>
      if ¬ x2 = 0 then
        fX35_endParagraph_b276 N sL h
      else
        (k_ok 34 h l0).bind fun _ =>
        (fX35_paragraphLine N sL l0 l4 l2 l3 h).bind fun q6 =>
        fX35_endParagraph_b249 N sL n l0 l2 l3 (l4 + (1 : Int32)) q6.2
theorem pX35_endParagraph_b249 {w : eW} {d : Nat} {dr : Nat} (hd : dr + 13 ≤ d + 1) (hdr : 12 ≤ dr) {N : Nat} {sL : Nat → Int32 → Int64 → Int64 → eH → Option (Int32 × eH)} (hsL : ∀ a t0 t1 t2 h q, sL a t0 t1 t2 h = some q → wm w dr YX35_layBox [.ref a, .int t0, .long t1, .long t2] h (e_is (e_rn c_I q))) : ∀ (n : Nat) l0 l2 l3 l4 h q, fX35_endParagraph_b249 N sL n l0 l2 l3 l4 h = some q → wp w (d + 1) YX35_endParagraph 249 [some (.ref l0), none, some (.int l2), some (.int l3), some (.int l4), none] [] h (e_is (e_rn c_V q)) := by
  intro n
  induction n with
  | zero => intro l0 l2 l3 l4 h q hf; simp [fX35_endParagraph_b249] at hf
  | succ n ih =>
    intro l0 l2 l3 l4 h q hf
    rw [fX35_endParagraph_b249] at hf
    refine w_iload dX35_endParagraph_249 rfl ?_
    refine w_iload_n dX35_endParagraph_251 rfl rfl ?_
    refine w_icmp_ge 276 dX35_endParagraph_252 (by decide) (fun c1 => ?_) (fun c1 => ?_)
    · replace hf := (if_pos (show l3 ≤ l4 from c1)).symm.trans hf
      exact (pX35_endParagraph_b276 hd hdr hsL hf).to trivial
    · replace hf := (if_neg (show ¬ (l3 ≤ l4) from c1)).symm.trans hf
      refine w_aload_n dX35_endParagraph_255 rfl rfl ?_
      obtain ⟨x2, b3, hf⟩ := Option.bind_eq_some_iff.mp hf
      refine GX35_321 b3 dX35_endParagraph_256 rfl ?_
      refine w_if_ne 276 dX35_endParagraph_259 (by decide) (fun c4 => ?_) (fun c4 => ?_)
      · replace hf := (if_pos (show ¬ x2 = 0 from c4)).symm.trans hf
        exact (pX35_endParagraph_b276 hd hdr hsL hf).to trivial
      · replace hf := (if_neg (show ¬ (¬ x2 = 0) from (fun z => z c4))).symm.trans hf
        refine w_aload_n dX35_endParagraph_262 rfl rfl ?_
        refine w_iload dX35_endParagraph_263 rfl ?_
        refine w_iload_n dX35_endParagraph_265 rfl rfl ?_
        refine w_iload_n dX35_endParagraph_266 rfl rfl ?_
        obtain ⟨_, b5, hf⟩ := Option.bind_eq_some_iff.mp hf
        refine x_cnV hf (e_stV (Yc := YX35_paragraphLine) (ci := 34) (av := [.int l4, .int l2, .int l3]) (st := []) dX35_endParagraph_267 q5875 mX35_paragraphLine rfl (k_ok_some b5).1 (k_ok_some b5).2) mX35_paragraphLine.2.2.1 mX35_paragraphLine.2.2.2.2.1 (Nat.le_of_ble_eq_true rfl) (Nat.le_of_ble_eq_true rfl) (fun q hq => pX35_paragraphLine (by omega) hdr hsL hq) (fun q6 hf => ?_)
        refine w_iinc dX35_endParagraph_270 (v := (l4 + (1 : Int32))) rfl rfl (by decide) (ls' := [some (.ref l0), none, some (.int l2), some (.int l3), some (.int (l4 + (1 : Int32))), none]) rfl ?_
        refine w_goto 249 dX35_endParagraph_273 (by decide) ?_
        exact (ih _ _ _ _ _ _ hf).to ⟨rfl, rfl, rfl, rfl, trivial⟩
def fX35_endParagraph_b184 (N : Nat) (sL : Nat → Int32 → Int64 → Int64 → eH → Option (Int32 × eH)) : Nat → Nat → Int32 → Int32 → Int32 → eH → Option (Unit × eH)
  | 0, _, _, _, _, _ => none
  | n + 1, l0, l2, l3, l4, h =>
    if l3 ≤ l4 then
      fX35_endParagraph_b249 N sL N l0 l2 l3 (0 : Int32) h
    else
      (g_A 34 h l0 6).bind fun a2 =>
      (g_A 36 h a2 39).bind fun a4 =>
      (r_I 100 h a4 l4).bind fun x6 =>
      if l2 ≤ x6 then
        fX35_endParagraph_b233 N sL (fX35_endParagraph_b184 N sL n) l0 l2 l3 l4 l0 h
      else
        (g_A 34 h l0 63).bind fun a9 =>
        (r_I 100 h a9 ((6 : Int32) * x6)).bind fun x11 =>
        if ¬ x11 = (6 : Int32) then
          fX35_endParagraph_b233 N sL (fX35_endParagraph_b184 N sL n) l0 l2 l3 l4 l0 h
        else
          (g_I 34 h l0 112).bind fun x14 =>
          fX35_endParagraph_b237 N sL (fX35_endParagraph_b184 N sL n) l0 l2 l3 l4 l0 (x14 + (1 : Int32)) h
theorem pX35_endParagraph_b184 {w : eW} {d : Nat} {dr : Nat} (hd : dr + 13 ≤ d + 1) (hdr : 12 ≤ dr) {N : Nat} {sL : Nat → Int32 → Int64 → Int64 → eH → Option (Int32 × eH)} (hsL : ∀ a t0 t1 t2 h q, sL a t0 t1 t2 h = some q → wm w dr YX35_layBox [.ref a, .int t0, .long t1, .long t2] h (e_is (e_rn c_I q))) : ∀ (n : Nat) l0 l2 l3 l4 h q, fX35_endParagraph_b184 N sL n l0 l2 l3 l4 h = some q → wp w (d + 1) YX35_endParagraph 184 [some (.ref l0), none, some (.int l2), some (.int l3), some (.int l4), none] [] h (e_is (e_rn c_V q)) := by
  intro n
  induction n with
  | zero => intro l0 l2 l3 l4 h q hf; simp [fX35_endParagraph_b184] at hf
  | succ n ih =>
    intro l0 l2 l3 l4 h q hf
    rw [fX35_endParagraph_b184] at hf
    refine w_iload dX35_endParagraph_184 rfl ?_
    refine w_iload_n dX35_endParagraph_186 rfl rfl ?_
    refine w_icmp_ge 246 dX35_endParagraph_187 (by decide) (fun c1 => ?_) (fun c1 => ?_)
    · replace hf := (if_pos (show l3 ≤ l4 from c1)).symm.trans hf
      refine w_iconst dX35_endParagraph_246 (v := 0) (by decide) ?_
      refine w_istore dX35_endParagraph_247 (by decide) (ls' := [some (.ref l0), none, some (.int l2), some (.int l3), some (.int (0 : Int32)), none]) rfl ?_
      exact (pX35_endParagraph_b249 hd hdr hsL N _ _ _ _ _ _ hf).to ⟨rfl, rfl, rfl, rfl, trivial⟩
    · replace hf := (if_neg (show ¬ (l3 ≤ l4) from c1)).symm.trans hf
      refine w_aload_n dX35_endParagraph_190 rfl rfl ?_
      obtain ⟨a2, b3, hf⟩ := Option.bind_eq_some_iff.mp hf
      refine GX35_35 b3 dX35_endParagraph_191 rfl ?_
      obtain ⟨a4, b5, hf⟩ := Option.bind_eq_some_iff.mp hf
      refine GX35_930 b5 dX35_endParagraph_194 rfl ?_
      refine w_iload dX35_endParagraph_197 rfl ?_
      obtain ⟨x6, b7, hf⟩ := Option.bind_eq_some_iff.mp hf
      refine x_rI b7 dX35_endParagraph_199 ?_
      refine w_istore dX35_endParagraph_200 (by decide) (ls' := [some (.ref l0), none, some (.int l2), some (.int l3), some (.int l4), some (.int x6)]) rfl ?_
      refine w_aload_n dX35_endParagraph_202 rfl rfl ?_
      refine w_iload dX35_endParagraph_203 rfl ?_
      refine w_iload_n dX35_endParagraph_205 rfl rfl ?_
      refine w_icmp_ge 233 dX35_endParagraph_206 (by decide) (fun c8 => ?_) (fun c8 => ?_)
      · replace hf := (if_pos (show l2 ≤ x6 from c8)).symm.trans hf
        exact (pX35_endParagraph_b233 hd hdr hsL ih hf).to ⟨rfl, rfl, rfl, rfl, trivial⟩
      · replace hf := (if_neg (show ¬ (l2 ≤ x6) from c8)).symm.trans hf
        refine w_aload_n dX35_endParagraph_209 rfl rfl ?_
        obtain ⟨a9, b10, hf⟩ := Option.bind_eq_some_iff.mp hf
        refine GX35_148 b10 dX35_endParagraph_210 rfl ?_
        refine w_bipush dX35_endParagraph_213 (v := 6) (by decide) ?_
        refine w_iload dX35_endParagraph_215 rfl ?_
        refine w_imul dX35_endParagraph_217 ?_
        obtain ⟨x11, b12, hf⟩ := Option.bind_eq_some_iff.mp hf
        refine x_rI b12 dX35_endParagraph_218 ?_
        refine w_bipush dX35_endParagraph_219 (v := 6) (by decide) ?_
        refine w_icmp_ne 233 dX35_endParagraph_221 (by decide) (fun c13 => ?_) (fun c13 => ?_)
        · replace hf := (if_pos (show ¬ x11 = (6 : Int32) from c13)).symm.trans hf
          exact (pX35_endParagraph_b233 hd hdr hsL ih hf).to ⟨rfl, rfl, rfl, rfl, trivial⟩
        · replace hf := (if_neg (show ¬ (¬ x11 = (6 : Int32)) from (fun z => z c13))).symm.trans hf
          refine w_aload_n dX35_endParagraph_224 rfl rfl ?_
          obtain ⟨x14, b15, hf⟩ := Option.bind_eq_some_iff.mp hf
          refine GX35_315 b15 dX35_endParagraph_225 rfl ?_
          refine w_iconst dX35_endParagraph_228 (v := 1) (by decide) ?_
          refine w_iadd dX35_endParagraph_229 ?_
          refine w_goto 237 dX35_endParagraph_230 (by decide) ?_
          exact (pX35_endParagraph_b237 hd hdr hsL ih hf).to ⟨rfl, rfl, rfl, rfl, trivial⟩
def fX35_endParagraph_b138 (N : Nat) (sL : Nat → Int32 → Int64 → Int64 → eH → Option (Int32 × eH)) (l0 : Nat) (l2 : Int32) (l3 : Int32) (h : eH) : Option (Unit × eH) :=
  (g_I 34 h l0 46).bind fun x1 =>
  if x1 ≤ 0 then
    (k_ok 34 h l0).bind fun _ =>
    (fX35_setAt N l0 (1984 : Int32) (0 : Int32) (0 : Int32) h).bind fun q5 =>
    (g_I 34 q5.2 l0 111).bind fun x6 =>
    (p_V 34 q5.2 l0 111 (.int (x6 + l3))).bind fun h8 =>
    (g_I 34 h8 l0 113).bind fun x10 =>
    (g_A 34 h8 l0 6).bind fun a12 =>
    (k_ok 36 h8 a12).bind fun _ =>
    (fX37_nodes a12 h8).bind fun q15 =>
    (p_V 34 q15.2 l0 113 (.int (x10 + q15.1))).bind fun h16 =>
    fX35_endParagraph_b184 N sL N l0 l2 l3 (0 : Int32) h16
  else
    some ((), h)
theorem pX35_endParagraph_b138 {w : eW} {d : Nat} {dr : Nat} (hd : dr + 13 ≤ d + 1) (hdr : 12 ≤ dr) {N : Nat} {sL : Nat → Int32 → Int64 → Int64 → eH → Option (Int32 × eH)} (hsL : ∀ a t0 t1 t2 h q, sL a t0 t1 t2 h = some q → wm w dr YX35_layBox [.ref a, .int t0, .long t1, .long t2] h (e_is (e_rn c_I q))) {l0 : Nat} {l2 : Int32} {l3 : Int32} {h : eH} {q} (hf : fX35_endParagraph_b138 N sL l0 l2 l3 h = some q) : wp w (d + 1) YX35_endParagraph 138 [some (.ref l0), none, some (.int l2), some (.int l3), none, none] [] h (e_is (e_rn c_V q)) := by
  unfold fX35_endParagraph_b138 at hf
  refine w_aload_n dX35_endParagraph_138 rfl rfl ?_
  obtain ⟨x1, b2, hf⟩ := Option.bind_eq_some_iff.mp hf
  refine GX35_321 b2 dX35_endParagraph_139 rfl ?_
  refine w_if_le 146 dX35_endParagraph_142 (by decide) (fun c3 => ?_) (fun c3 => ?_)
  · replace hf := (if_pos (show x1 ≤ 0 from c3)).symm.trans hf
    refine w_aload_n dX35_endParagraph_146 rfl rfl ?_
    refine w_sipush dX35_endParagraph_147 (v := 1984) (by decide) ?_
    refine w_iconst dX35_endParagraph_150 (v := 0) (by decide) ?_
    refine w_iconst dX35_endParagraph_151 (v := 0) (by decide) ?_
    obtain ⟨_, b4, hf⟩ := Option.bind_eq_some_iff.mp hf
    refine x_cnV hf (e_stV (Yc := YX35_setAt) (ci := 34) (av := [.int (1984 : Int32), .int (0 : Int32), .int (0 : Int32)]) (st := []) dX35_endParagraph_152 q5205 mX35_setAt rfl (k_ok_some b4).1 (k_ok_some b4).2) mX35_setAt.2.2.1 mX35_setAt.2.2.2.2.1 (Nat.le_of_ble_eq_true rfl) (Nat.le_of_ble_eq_true rfl) (fun q hq => pX35_setAt (by omega) hq) (fun q5 hf => ?_)
    refine w_aload_n dX35_endParagraph_155 rfl rfl ?_
    refine w_aload_n dX35_endParagraph_156 rfl rfl ?_
    obtain ⟨x6, b7, hf⟩ := Option.bind_eq_some_iff.mp hf
    refine GX35_309 b7 dX35_endParagraph_157 rfl ?_
    refine w_iload_n dX35_endParagraph_160 rfl rfl ?_
    refine w_iadd dX35_endParagraph_161 ?_
    obtain ⟨h8, b9, hf⟩ := Option.bind_eq_some_iff.mp hf
    refine SX35_309 b9 dX35_endParagraph_162 rfl ?_
    refine w_aload_n dX35_endParagraph_165 rfl rfl ?_
    refine w_aload_n dX35_endParagraph_166 rfl rfl ?_
    obtain ⟨x10, b11, hf⟩ := Option.bind_eq_some_iff.mp hf
    refine GX35_318 b11 dX35_endParagraph_167 rfl ?_
    refine w_aload_n dX35_endParagraph_170 rfl rfl ?_
    obtain ⟨a12, b13, hf⟩ := Option.bind_eq_some_iff.mp hf
    refine GX35_35 b13 dX35_endParagraph_171 rfl ?_
    obtain ⟨_, b14, hf⟩ := Option.bind_eq_some_iff.mp hf
    refine x_cnI hf (e_stV (Yc := YX37_nodes) (ci := 36) (av := []) (st := [.int x10, .ref l0]) dX35_endParagraph_174 q5871 mX37_nodes rfl (k_ok_some b14).1 (k_ok_some b14).2) mX37_nodes.2.2.1 mX37_nodes.2.2.2.2.1 (Nat.le_of_ble_eq_true rfl) (Nat.le_of_ble_eq_true rfl) (fun q hq => pX37_nodes (by omega) hq) (fun q15 hf => ?_)
    refine w_iadd dX35_endParagraph_177 ?_
    obtain ⟨h16, b17, hf⟩ := Option.bind_eq_some_iff.mp hf
    refine SX35_318 b17 dX35_endParagraph_178 rfl ?_
    refine w_iconst dX35_endParagraph_181 (v := 0) (by decide) ?_
    refine w_istore dX35_endParagraph_182 (by decide) (ls' := [some (.ref l0), none, some (.int l2), some (.int l3), some (.int (0 : Int32)), none]) rfl ?_
    exact (pX35_endParagraph_b184 hd hdr hsL N _ _ _ _ _ _ hf).to ⟨rfl, rfl, rfl, rfl, trivial⟩
  · replace hf := (if_neg (show ¬ (x1 ≤ 0) from c3)).symm.trans hf
    cases hf
    exact w_vret dX35_endParagraph_145 rfl rfl
def fX35_endParagraph_b66 (N : Nat) (sL : Nat → Int32 → Int64 → Int64 → eH → Option (Int32 × eH)) : Nat → Nat → Int32 → Int32 → Int32 → eH → Option (Unit × eH)
  | 0, _, _, _, _, _ => none
  | n + 1, l0, l1, l2, l3, h =>
    if ((6 : Int32) * l2) ≤ l3 then
      (k_ok 34 h l0).bind fun _ =>
      (fX35_tell N l0 l2 h).bind fun q3 =>
      (g_A 34 q3.2 l0 6).bind fun a4 =>
      (k_ok 36 q3.2 a4).bind fun _ =>
      (fX37_breakUp N a4 q3.2).bind fun q7 =>
      if 0 ≤ q7.1 then
        (g_A 34 q7.2 l0 6).bind fun a9 =>
        (g_I 36 q7.2 a9 0).bind fun x11 =>
        if x11 ≤ 0 then
          fX35_endParagraph_b138 N sL l0 l2 q7.1 q7.2
        else
          (k_ok 34 q7.2 l0).bind fun _ =>
          (fX35_fail l0 (16 : Int32) q7.2).bind fun q15 =>
          fX35_endParagraph_b138 N sL l0 l2 q7.1 q15.2
      else
        (k_ok 34 q7.2 l0).bind fun _ =>
        (fX35_fail l0 (2 : Int32) q7.2).bind fun q17 =>
        fX35_endParagraph_b138 N sL l0 l2 q7.1 q17.2
    else
      (g_A 34 h l0 63).bind fun a18 =>
      (g_A 34 h l0 55).bind fun a20 =>
      (r_I 100 h a20 (((6 : Int32) * l1) + l3)).bind fun x22 =>
      (q_V 100 h a18 l3 (.int x22)).bind fun h24 =>
      fX35_endParagraph_b66 N sL n l0 l1 l2 (l3 + (1 : Int32)) h24
theorem pX35_endParagraph_b66 {w : eW} {d : Nat} {dr : Nat} (hd : dr + 13 ≤ d + 1) (hdr : 12 ≤ dr) {N : Nat} {sL : Nat → Int32 → Int64 → Int64 → eH → Option (Int32 × eH)} (hsL : ∀ a t0 t1 t2 h q, sL a t0 t1 t2 h = some q → wm w dr YX35_layBox [.ref a, .int t0, .long t1, .long t2] h (e_is (e_rn c_I q))) : ∀ (n : Nat) l0 l1 l2 l3 h q, fX35_endParagraph_b66 N sL n l0 l1 l2 l3 h = some q → wp w (d + 1) YX35_endParagraph 66 [some (.ref l0), some (.int l1), some (.int l2), some (.int l3), none, none] [] h (e_is (e_rn c_V q)) := by
  intro n
  induction n with
  | zero => intro l0 l1 l2 l3 h q hf; simp [fX35_endParagraph_b66] at hf
  | succ n ih =>
    intro l0 l1 l2 l3 h q hf
    rw [fX35_endParagraph_b66] at hf
    refine w_iload_n dX35_endParagraph_66 rfl rfl ?_
    refine w_bipush dX35_endParagraph_67 (v := 6) (by decide) ?_
    refine w_iload_n dX35_endParagraph_69 rfl rfl ?_
    refine w_imul dX35_endParagraph_70 ?_
    refine w_icmp_ge 97 dX35_endParagraph_71 (by decide) (fun c1 => ?_) (fun c1 => ?_)
    · replace hf := (if_pos (show ((6 : Int32) * l2) ≤ l3 from c1)).symm.trans hf
      refine w_aload_n dX35_endParagraph_97 rfl rfl ?_
      refine w_iload_n dX35_endParagraph_98 rfl rfl ?_
      obtain ⟨_, b2, hf⟩ := Option.bind_eq_some_iff.mp hf
      refine x_cnV hf (e_stV (Yc := YX35_tell) (ci := 34) (av := [.int l2]) (st := []) dX35_endParagraph_99 q5746 mX35_tell rfl (k_ok_some b2).1 (k_ok_some b2).2) mX35_tell.2.2.1 mX35_tell.2.2.2.2.1 (Nat.le_of_ble_eq_true rfl) (Nat.le_of_ble_eq_true rfl) (fun q hq => pX35_tell (by omega) hq) (fun q3 hf => ?_)
      refine w_aload_n dX35_endParagraph_102 rfl rfl ?_
      obtain ⟨a4, b5, hf⟩ := Option.bind_eq_some_iff.mp hf
      refine GX35_35 b5 dX35_endParagraph_103 rfl ?_
      obtain ⟨_, b6, hf⟩ := Option.bind_eq_some_iff.mp hf
      refine x_cnI hf (e_stV (Yc := YX37_breakUp) (ci := 36) (av := []) (st := []) dX35_endParagraph_106 q5764 mX37_breakUp rfl (k_ok_some b6).1 (k_ok_some b6).2) mX37_breakUp.2.2.1 mX37_breakUp.2.2.2.2.1 (Nat.le_of_ble_eq_true rfl) (Nat.le_of_ble_eq_true rfl) (fun q hq => pX37_breakUp (by omega) hq) (fun q7 hf => ?_)
      refine w_istore_n dX35_endParagraph_109 rfl (by decide) (ls' := [some (.ref l0), some (.int l1), some (.int l2), some (.int q7.1), none, none]) rfl ?_
      refine w_iload_n dX35_endParagraph_110 rfl rfl ?_
      refine w_if_ge 122 dX35_endParagraph_111 (by decide) (fun c8 => ?_) (fun c8 => ?_)
      · replace hf := (if_pos (show 0 ≤ q7.1 from c8)).symm.trans hf
        refine w_aload_n dX35_endParagraph_122 rfl rfl ?_
        obtain ⟨a9, b10, hf⟩ := Option.bind_eq_some_iff.mp hf
        refine GX35_35 b10 dX35_endParagraph_123 rfl ?_
        obtain ⟨x11, b12, hf⟩ := Option.bind_eq_some_iff.mp hf
        refine GX35_926 b12 dX35_endParagraph_126 rfl ?_
        refine w_if_le 138 dX35_endParagraph_129 (by decide) (fun c13 => ?_) (fun c13 => ?_)
        · replace hf := (if_pos (show x11 ≤ 0 from c13)).symm.trans hf
          exact (pX35_endParagraph_b138 hd hdr hsL hf).to ⟨rfl, rfl, rfl, trivial⟩
        · replace hf := (if_neg (show ¬ (x11 ≤ 0) from c13)).symm.trans hf
          refine w_aload_n dX35_endParagraph_132 rfl rfl ?_
          refine w_bipush dX35_endParagraph_133 (v := 16) (by decide) ?_
          obtain ⟨_, b14, hf⟩ := Option.bind_eq_some_iff.mp hf
          refine x_cnV hf (e_stV (Yc := YX35_fail) (ci := 34) (av := [.int (16 : Int32)]) (st := []) dX35_endParagraph_135 q5109 mX35_fail rfl (k_ok_some b14).1 (k_ok_some b14).2) mX35_fail.2.2.1 mX35_fail.2.2.2.2.1 (Nat.le_of_ble_eq_true rfl) (Nat.le_of_ble_eq_true rfl) (fun q hq => pX35_fail (by omega) hq) (fun q15 hf => ?_)
          exact (pX35_endParagraph_b138 hd hdr hsL hf).to ⟨rfl, rfl, rfl, trivial⟩
      · replace hf := (if_neg (show ¬ (0 ≤ q7.1) from c8)).symm.trans hf
        refine w_aload_n dX35_endParagraph_114 rfl rfl ?_
        refine w_iconst dX35_endParagraph_115 (v := 2) (by decide) ?_
        obtain ⟨_, b16, hf⟩ := Option.bind_eq_some_iff.mp hf
        refine x_cnV hf (e_stV (Yc := YX35_fail) (ci := 34) (av := [.int (2 : Int32)]) (st := []) dX35_endParagraph_116 q5109 mX35_fail rfl (k_ok_some b16).1 (k_ok_some b16).2) mX35_fail.2.2.1 mX35_fail.2.2.2.2.1 (Nat.le_of_ble_eq_true rfl) (Nat.le_of_ble_eq_true rfl) (fun q hq => pX35_fail (by omega) hq) (fun q17 hf => ?_)
        refine w_goto 138 dX35_endParagraph_119 (by decide) ?_
        exact (pX35_endParagraph_b138 hd hdr hsL hf).to ⟨rfl, rfl, rfl, trivial⟩
    · replace hf := (if_neg (show ¬ (((6 : Int32) * l2) ≤ l3) from c1)).symm.trans hf
      refine w_aload_n dX35_endParagraph_74 rfl rfl ?_
      obtain ⟨a18, b19, hf⟩ := Option.bind_eq_some_iff.mp hf
      refine GX35_148 b19 dX35_endParagraph_75 rfl ?_
      refine w_iload_n dX35_endParagraph_78 rfl rfl ?_
      refine w_aload_n dX35_endParagraph_79 rfl rfl ?_
      obtain ⟨a20, b21, hf⟩ := Option.bind_eq_some_iff.mp hf
      refine GX35_136 b21 dX35_endParagraph_80 rfl ?_
      refine w_bipush dX35_endParagraph_83 (v := 6) (by decide) ?_
      refine w_iload_n dX35_endParagraph_85 rfl rfl ?_
      refine w_imul dX35_endParagraph_86 ?_
      refine w_iload_n dX35_endParagraph_87 rfl rfl ?_
      refine w_iadd dX35_endParagraph_88 ?_
      obtain ⟨x22, b23, hf⟩ := Option.bind_eq_some_iff.mp hf
      refine x_rI b23 dX35_endParagraph_89 ?_
      obtain ⟨h24, b25, hf⟩ := Option.bind_eq_some_iff.mp hf
      refine x_qI b25 dX35_endParagraph_90 ?_
      refine w_iinc dX35_endParagraph_91 (v := (l3 + (1 : Int32))) rfl rfl (by decide) (ls' := [some (.ref l0), some (.int l1), some (.int l2), some (.int (l3 + (1 : Int32))), none, none]) rfl ?_
      refine w_goto 66 dX35_endParagraph_94 (by decide) ?_
      exact (ih _ _ _ _ _ _ hf).to ⟨rfl, rfl, rfl, rfl, trivial⟩
def fX35_endParagraph (N : Nat) (sL : Nat → Int32 → Int64 → Int64 → eH → Option (Int32 × eH)) (this : Nat) (h : eH) : Option (Unit × eH) :=
  (k_ok 34 h this).bind fun _ =>
  (fX35_endWord N this h).bind fun q2 =>
  (g_I 34 q2.2 this 46).bind fun x3 =>
  if x3 ≤ 0 then
    (g_A 34 q2.2 this 53).bind fun a6 =>
    (g_I 34 q2.2 this 51).bind fun x8 =>
    (r_I 100 q2.2 a6 (x8 - (1 : Int32))).bind fun x10 =>
    (g_I 34 q2.2 this 56).bind fun x12 =>
    (g_I 34 q2.2 this 51).bind fun x14 =>
    (p_V 34 q2.2 this 51 (.int (x14 - (1 : Int32)))).bind fun h16 =>
    (p_V 34 h16 this 56 (.int x10)).bind fun h18 =>
    if ¬ (x12 - x10) = 0 then
      if (x12 - x10) ≤ (2000 : Int32) then
        fX35_endParagraph_b66 N sL N this x10 (x12 - x10) (0 : Int32) h18
      else
        (k_ok 34 h18 this).bind fun _ =>
        (fX35_fail this (2 : Int32) h18).bind fun q23 =>
        some ((), q23.2)
    else
      some ((), h18)
  else
    some ((), q2.2)
theorem pX35_endParagraph {w : eW} {d : Nat} {dr : Nat} (hd : dr + 13 ≤ d) (hdr : 12 ≤ dr) {N : Nat} {sL : Nat → Int32 → Int64 → Int64 → eH → Option (Int32 × eH)} (hsL : ∀ a t0 t1 t2 h q, sL a t0 t1 t2 h = some q → wm w dr YX35_layBox [.ref a, .int t0, .long t1, .long t2] h (e_is (e_rn c_I q))) {this : Nat} {h : eH} {q} (hf : fX35_endParagraph N sL this h = some q) : wm w d YX35_endParagraph [.ref this] h (e_is (e_rn c_V q)) := by
  obtain ⟨d, rfl⟩ : ∃ e, d = e + 1 := ⟨d - 1, by omega⟩
  show wp w (d + 1) YX35_endParagraph 0 [some (.ref this), none, none, none, none, none] [] h _
  unfold fX35_endParagraph at hf
  refine w_aload_n dX35_endParagraph_0 rfl rfl ?_
  obtain ⟨_, b1, hf⟩ := Option.bind_eq_some_iff.mp hf
  refine x_cnV hf (e_stV (Yc := YX35_endWord) (ci := 34) (av := []) (st := []) dX35_endParagraph_1 q5675 mX35_endWord rfl (k_ok_some b1).1 (k_ok_some b1).2) mX35_endWord.2.2.1 mX35_endWord.2.2.2.2.1 (Nat.le_of_ble_eq_true rfl) (Nat.le_of_ble_eq_true rfl) (fun q hq => pX35_endWord (by omega) hq) (fun q2 hf => ?_)
  refine w_aload_n dX35_endParagraph_4 rfl rfl ?_
  obtain ⟨x3, b4, hf⟩ := Option.bind_eq_some_iff.mp hf
  refine GX35_321 b4 dX35_endParagraph_5 rfl ?_
  refine w_if_le 12 dX35_endParagraph_8 (by decide) (fun c5 => ?_) (fun c5 => ?_)
  · replace hf := (if_pos (show x3 ≤ 0 from c5)).symm.trans hf
    refine w_aload_n dX35_endParagraph_12 rfl rfl ?_
    obtain ⟨a6, b7, hf⟩ := Option.bind_eq_some_iff.mp hf
    refine GX35_130 b7 dX35_endParagraph_13 rfl ?_
    refine w_aload_n dX35_endParagraph_16 rfl rfl ?_
    obtain ⟨x8, b9, hf⟩ := Option.bind_eq_some_iff.mp hf
    refine GX35_366 b9 dX35_endParagraph_17 rfl ?_
    refine w_iconst dX35_endParagraph_20 (v := 1) (by decide) ?_
    refine w_isub dX35_endParagraph_21 ?_
    obtain ⟨x10, b11, hf⟩ := Option.bind_eq_some_iff.mp hf
    refine x_rI b11 dX35_endParagraph_22 ?_
    refine w_istore_n dX35_endParagraph_23 rfl (by decide) (ls' := [some (.ref this), some (.int x10), none, none, none, none]) rfl ?_
    refine w_aload_n dX35_endParagraph_24 rfl rfl ?_
    obtain ⟨x12, b13, hf⟩ := Option.bind_eq_some_iff.mp hf
    refine GX35_370 b13 dX35_endParagraph_25 rfl ?_
    refine w_iload_n dX35_endParagraph_28 rfl rfl ?_
    refine w_isub dX35_endParagraph_29 ?_
    refine w_istore_n dX35_endParagraph_30 rfl (by decide) (ls' := [some (.ref this), some (.int x10), some (.int (x12 - x10)), none, none, none]) rfl ?_
    refine w_aload_n dX35_endParagraph_31 rfl rfl ?_
    refine w_dup dX35_endParagraph_32 rfl ?_
    obtain ⟨x14, b15, hf⟩ := Option.bind_eq_some_iff.mp hf
    refine GX35_366 b15 dX35_endParagraph_33 rfl ?_
    refine w_iconst dX35_endParagraph_36 (v := 1) (by decide) ?_
    refine w_isub dX35_endParagraph_37 ?_
    obtain ⟨h16, b17, hf⟩ := Option.bind_eq_some_iff.mp hf
    refine SX35_366 b17 dX35_endParagraph_38 rfl ?_
    refine w_aload_n dX35_endParagraph_41 rfl rfl ?_
    refine w_iload_n dX35_endParagraph_42 rfl rfl ?_
    obtain ⟨h18, b19, hf⟩ := Option.bind_eq_some_iff.mp hf
    refine SX35_370 b19 dX35_endParagraph_43 rfl ?_
    refine w_iload_n dX35_endParagraph_46 rfl rfl ?_
    refine w_if_ne 51 dX35_endParagraph_47 (by decide) (fun c20 => ?_) (fun c20 => ?_)
    · replace hf := (if_pos (show ¬ (x12 - x10) = 0 from c20)).symm.trans hf
      refine w_iload_n dX35_endParagraph_51 rfl rfl ?_
      refine w_sipush dX35_endParagraph_52 (v := 2000) (by decide) ?_
      refine w_icmp_le 64 dX35_endParagraph_55 (by decide) (fun c21 => ?_) (fun c21 => ?_)
      · replace hf := (if_pos (show (x12 - x10) ≤ (2000 : Int32) from c21)).symm.trans hf
        refine w_iconst dX35_endParagraph_64 (v := 0) (by decide) ?_
        refine w_istore_n dX35_endParagraph_65 rfl (by decide) (ls' := [some (.ref this), some (.int x10), some (.int (x12 - x10)), some (.int (0 : Int32)), none, none]) rfl ?_
        exact (pX35_endParagraph_b66 hd hdr hsL N _ _ _ _ _ _ hf).to ⟨rfl, rfl, rfl, rfl, trivial⟩
      · replace hf := (if_neg (show ¬ ((x12 - x10) ≤ (2000 : Int32)) from c21)).symm.trans hf
        refine w_aload_n dX35_endParagraph_58 rfl rfl ?_
        refine w_iconst dX35_endParagraph_59 (v := 2) (by decide) ?_
        obtain ⟨_, b22, hf⟩ := Option.bind_eq_some_iff.mp hf
        refine x_cnV hf (e_stV (Yc := YX35_fail) (ci := 34) (av := [.int (2 : Int32)]) (st := []) dX35_endParagraph_60 q5109 mX35_fail rfl (k_ok_some b22).1 (k_ok_some b22).2) mX35_fail.2.2.1 mX35_fail.2.2.2.2.1 (Nat.le_of_ble_eq_true rfl) (Nat.le_of_ble_eq_true rfl) (fun q hq => pX35_fail (by omega) hq) (fun q23 hf => ?_)
        cases hf
        exact w_vret dX35_endParagraph_63 rfl rfl
    · replace hf := (if_neg (show ¬ (¬ (x12 - x10) = 0) from (fun z => z c20))).symm.trans hf
      cases hf
      exact w_vret dX35_endParagraph_50 rfl rfl
  · replace hf := (if_neg (show ¬ (x3 ≤ 0) from c5)).symm.trans hf
    cases hf
    exact w_vret dX35_endParagraph_11 rfl rfl
abbrev cX35_goesTo : ByteArray := prog_37_method_167_code
def yX35_goesTo : MethodName := ⟨RX35, "goesTo", "(IIIZ)V"⟩
def YX35_goesTo : eY := (yX35_goesTo, cX35_goesTo, 5, none, [])
theorem mX35_goesTo : e_mv YX35_goesTo RX35 4 := ⟨q5897, qs393, q5898, by decide, by decide +kernel, (e_sig (by decide +kernel))⟩
theorem dX35_goesTo_0 : decode cX35_goesTo 0 = .ok (.iload_n 2, 1) := dc_28 (by decide +kernel)
theorem dX35_goesTo_1 : decode cX35_goesTo 1 = .ok (.ifCond .lt 42, 3) := dc_155 (a := 0) (b := 42) (v := 42) (by decide +kernel)
theorem dX35_goesTo_4 : decode cX35_goesTo 4 = .ok (.aload_n 0, 1) := dc_42 (by decide +kernel)
theorem dX35_goesTo_5 : decode cX35_goesTo 5 = .ok (.sipush 3299, 3) := dc_17 (a := 12) (b := 227) (v := 3299) (by decide +kernel)
theorem dX35_goesTo_8 : decode cX35_goesTo 8 = .ok (.iload_n 2, 1) := dc_28 (by decide +kernel)
theorem dX35_goesTo_9 : decode cX35_goesTo 9 = .ok (.iadd, 1) := dc_96 (by decide +kernel)
theorem dX35_goesTo_10 : decode cX35_goesTo 10 = .ok (.iload_n 1, 1) := dc_27 (by decide +kernel)
theorem dX35_goesTo_11 : decode cX35_goesTo 11 = .ok (.iload 4, 2) := dc_21 (a := 4) (by decide +kernel)
theorem dX35_goesTo_13 : decode cX35_goesTo 13 = .ok (.invokevirtual 477, 3) := dc_182 (a := 1) (b := 221) (n := 477) (by decide +kernel)
theorem dX35_goesTo_16 : decode cX35_goesTo 16 = .ok (.aload_n 0, 1) := dc_42 (by decide +kernel)
theorem dX35_goesTo_17 : decode cX35_goesTo 17 = .ok (.sipush 3555, 3) := dc_17 (a := 13) (b := 227) (v := 3555) (by decide +kernel)
theorem dX35_goesTo_20 : decode cX35_goesTo 20 = .ok (.iload_n 2, 1) := dc_28 (by decide +kernel)
theorem dX35_goesTo_21 : decode cX35_goesTo 21 = .ok (.iadd, 1) := dc_96 (by decide +kernel)
theorem dX35_goesTo_22 : decode cX35_goesTo 22 = .ok (.iload 4, 2) := dc_21 (a := 4) (by decide +kernel)
theorem dX35_goesTo_24 : decode cX35_goesTo 24 = .ok (.ifCond .eq 7, 3) := dc_153 (a := 0) (b := 7) (v := 7) (by decide +kernel)
theorem dX35_goesTo_27 : decode cX35_goesTo 27 = .ok (.iconst 0, 1) := dc_3 (by decide +kernel)
theorem dX35_goesTo_28 : decode cX35_goesTo 28 = .ok (.goto 7, 3) := dc_167 (a := 0) (b := 7) (v := 7) (by decide +kernel)
theorem dX35_goesTo_31 : decode cX35_goesTo 31 = .ok (.aload_n 0, 1) := dc_42 (by decide +kernel)
theorem dX35_goesTo_32 : decode cX35_goesTo 32 = .ok (.getfield 323, 3) := dc_180 (a := 1) (b := 67) (n := 323) (by decide +kernel)
theorem dX35_goesTo_35 : decode cX35_goesTo 35 = .ok (.iload 4, 2) := dc_21 (a := 4) (by decide +kernel)
theorem dX35_goesTo_37 : decode cX35_goesTo 37 = .ok (.invokevirtual 477, 3) := dc_182 (a := 1) (b := 221) (n := 477) (by decide +kernel)
theorem dX35_goesTo_40 : decode cX35_goesTo 40 = .ok (.goto 13, 3) := dc_167 (a := 0) (b := 13) (v := 13) (by decide +kernel)
theorem dX35_goesTo_43 : decode cX35_goesTo 43 = .ok (.iload_n 1, 1) := dc_27 (by decide +kernel)
theorem dX35_goesTo_44 : decode cX35_goesTo 44 = .ok (.ifCond .lt 9, 3) := dc_155 (a := 0) (b := 9) (v := 9) (by decide +kernel)
theorem dX35_goesTo_47 : decode cX35_goesTo 47 = .ok (.aload_n 0, 1) := dc_42 (by decide +kernel)
theorem dX35_goesTo_48 : decode cX35_goesTo 48 = .ok (.iload_n 1, 1) := dc_27 (by decide +kernel)
theorem dX35_goesTo_49 : decode cX35_goesTo 49 = .ok (.iload_n 3, 1) := dc_29 (by decide +kernel)
theorem dX35_goesTo_50 : decode cX35_goesTo 50 = .ok (.invokevirtual 883, 3) := dc_182 (a := 3) (b := 115) (n := 883) (by decide +kernel)
theorem dX35_goesTo_53 : decode cX35_goesTo 53 = .ok (.return_, 1) := dc_177 (by decide +kernel)
def fX35_goesTo_b53 (N : Nat) (sL : Nat → Int32 → Int64 → Int64 → eH → Option (Int32 × eH))  (h : eH) : Option (Unit × eH) :=
  some ((), h)
theorem pX35_goesTo_b53 {w : eW} {d : Nat} {dr : Nat} (hd : dr + 12 ≤ d + 1) (hdr : 12 ≤ dr) {N : Nat} {sL : Nat → Int32 → Int64 → Int64 → eH → Option (Int32 × eH)} (hsL : ∀ a t0 t1 t2 h q, sL a t0 t1 t2 h = some q → wm w dr YX35_layBox [.ref a, .int t0, .long t1, .long t2] h (e_is (e_rn c_I q)))  {h : eH} {q} (hf : fX35_goesTo_b53 N sL h = some q) : wp w (d + 1) YX35_goesTo 53 [none, none, none, none, none] [] h (e_is (e_rn c_V q)) := by
  unfold fX35_goesTo_b53 at hf
  cases hf
  exact w_vret dX35_goesTo_53 rfl rfl
def fX35_goesTo_b35 (N : Nat) (sL : Nat → Int32 → Int64 → Int64 → eH → Option (Int32 × eH)) (l4 : Int32) (s0 : Nat) (s1 : Int32) (s2 : Int32) (h : eH) : Option (Unit × eH) :=
  (k_ok 34 h s0).bind fun _ =>
  (fX35_setAt N s0 s1 s2 l4 h).bind fun q2 =>
  fX35_goesTo_b53 N sL q2.2
theorem pX35_goesTo_b35 {w : eW} {d : Nat} {dr : Nat} (hd : dr + 12 ≤ d + 1) (hdr : 12 ≤ dr) {N : Nat} {sL : Nat → Int32 → Int64 → Int64 → eH → Option (Int32 × eH)} (hsL : ∀ a t0 t1 t2 h q, sL a t0 t1 t2 h = some q → wm w dr YX35_layBox [.ref a, .int t0, .long t1, .long t2] h (e_is (e_rn c_I q))) {l4 : Int32} {s0 : Nat} {s1 : Int32} {s2 : Int32} {h : eH} {q} (hf : fX35_goesTo_b35 N sL l4 s0 s1 s2 h = some q) : wp w (d + 1) YX35_goesTo 35 [none, none, none, none, some (.int l4)] [.int s2, .int s1, .ref s0] h (e_is (e_rn c_V q)) := by
  unfold fX35_goesTo_b35 at hf
  refine w_iload dX35_goesTo_35 rfl ?_
  obtain ⟨_, b1, hf⟩ := Option.bind_eq_some_iff.mp hf
  refine x_cnV hf (e_stV (Yc := YX35_setAt) (ci := 34) (av := [.int s1, .int s2, .int l4]) (st := []) dX35_goesTo_37 q5205 mX35_setAt rfl (k_ok_some b1).1 (k_ok_some b1).2) mX35_setAt.2.2.1 mX35_setAt.2.2.2.2.1 (Nat.le_of_ble_eq_true rfl) (Nat.le_of_ble_eq_true rfl) (fun q hq => pX35_setAt (by omega) hq) (fun q2 hf => ?_)
  refine w_goto 53 dX35_goesTo_40 (by decide) ?_
  exact (pX35_goesTo_b53 hd hdr hsL hf).to trivial
def fX35_goesTo (N : Nat) (sL : Nat → Int32 → Int64 → Int64 → eH → Option (Int32 × eH)) (this : Nat) (p0 : Int32) (p1 : Int32) (p2 : Int32) (p3 : Int32) (h : eH) : Option (Unit × eH) :=
  if p1 < 0 then
    if p0 < 0 then
      fX35_goesTo_b53 N sL h
    else
      (k_ok 34 h this).bind fun _ =>
      (fX35_boxItem N sL this p0 p2 h).bind fun q4 =>
      fX35_goesTo_b53 N sL q4.2
  else
    (k_ok 34 h this).bind fun _ =>
    (fX35_setAt N this ((3299 : Int32) + p1) p0 p3 h).bind fun q6 =>
    if p3 = 0 then
      (g_I 34 q6.2 this 21).bind fun x8 =>
      fX35_goesTo_b35 N sL p3 this ((3555 : Int32) + p1) x8 q6.2
    else
      fX35_goesTo_b35 N sL p3 this ((3555 : Int32) + p1) (0 : Int32) q6.2
theorem pX35_goesTo {w : eW} {d : Nat} {dr : Nat} (hd : dr + 12 ≤ d) (hdr : 12 ≤ dr) {N : Nat} {sL : Nat → Int32 → Int64 → Int64 → eH → Option (Int32 × eH)} (hsL : ∀ a t0 t1 t2 h q, sL a t0 t1 t2 h = some q → wm w dr YX35_layBox [.ref a, .int t0, .long t1, .long t2] h (e_is (e_rn c_I q))) {this : Nat} {p0 : Int32} {p1 : Int32} {p2 : Int32} {p3 : Int32} {h : eH} {q} (hf : fX35_goesTo N sL this p0 p1 p2 p3 h = some q) : wm w d YX35_goesTo [.ref this, .int p0, .int p1, .int p2, .int p3] h (e_is (e_rn c_V q)) := by
  obtain ⟨d, rfl⟩ : ∃ e, d = e + 1 := ⟨d - 1, by omega⟩
  show wp w (d + 1) YX35_goesTo 0 [some (.ref this), some (.int p0), some (.int p1), some (.int p2), some (.int p3)] [] h _
  unfold fX35_goesTo at hf
  refine w_iload_n dX35_goesTo_0 rfl rfl ?_
  refine w_if_lt 43 dX35_goesTo_1 (by decide) (fun c1 => ?_) (fun c1 => ?_)
  · replace hf := (if_pos (show p1 < 0 from c1)).symm.trans hf
    refine w_iload_n dX35_goesTo_43 rfl rfl ?_
    refine w_if_lt 53 dX35_goesTo_44 (by decide) (fun c2 => ?_) (fun c2 => ?_)
    · replace hf := (if_pos (show p0 < 0 from c2)).symm.trans hf
      exact (pX35_goesTo_b53 hd hdr hsL hf).to trivial
    · replace hf := (if_neg (show ¬ (p0 < 0) from c2)).symm.trans hf
      refine w_aload_n dX35_goesTo_47 rfl rfl ?_
      refine w_iload_n dX35_goesTo_48 rfl rfl ?_
      refine w_iload_n dX35_goesTo_49 rfl rfl ?_
      obtain ⟨_, b3, hf⟩ := Option.bind_eq_some_iff.mp hf
      refine x_cnV hf (e_stV (Yc := YX35_boxItem) (ci := 34) (av := [.int p0, .int p2]) (st := []) dX35_goesTo_50 q5663 mX35_boxItem rfl (k_ok_some b3).1 (k_ok_some b3).2) mX35_boxItem.2.2.1 mX35_boxItem.2.2.2.2.1 (Nat.le_of_ble_eq_true rfl) (Nat.le_of_ble_eq_true rfl) (fun q hq => pX35_boxItem (by omega) hdr hsL hq) (fun q4 hf => ?_)
      exact (pX35_goesTo_b53 hd hdr hsL hf).to trivial
  · replace hf := (if_neg (show ¬ (p1 < 0) from c1)).symm.trans hf
    refine w_aload_n dX35_goesTo_4 rfl rfl ?_
    refine w_sipush dX35_goesTo_5 (v := 3299) (by decide) ?_
    refine w_iload_n dX35_goesTo_8 rfl rfl ?_
    refine w_iadd dX35_goesTo_9 ?_
    refine w_iload_n dX35_goesTo_10 rfl rfl ?_
    refine w_iload dX35_goesTo_11 rfl ?_
    obtain ⟨_, b5, hf⟩ := Option.bind_eq_some_iff.mp hf
    refine x_cnV hf (e_stV (Yc := YX35_setAt) (ci := 34) (av := [.int ((3299 : Int32) + p1), .int p0, .int p3]) (st := []) dX35_goesTo_13 q5205 mX35_setAt rfl (k_ok_some b5).1 (k_ok_some b5).2) mX35_setAt.2.2.1 mX35_setAt.2.2.2.2.1 (Nat.le_of_ble_eq_true rfl) (Nat.le_of_ble_eq_true rfl) (fun q hq => pX35_setAt (by omega) hq) (fun q6 hf => ?_)
    refine w_aload_n dX35_goesTo_16 rfl rfl ?_
    refine w_sipush dX35_goesTo_17 (v := 3555) (by decide) ?_
    refine w_iload_n dX35_goesTo_20 rfl rfl ?_
    refine w_iadd dX35_goesTo_21 ?_
    refine w_iload dX35_goesTo_22 rfl ?_
    refine w_if_eq 31 dX35_goesTo_24 (by decide) (fun c7 => ?_) (fun c7 => ?_)
    · replace hf := (if_pos (show p3 = 0 from c7)).symm.trans hf
      refine w_aload_n dX35_goesTo_31 rfl rfl ?_
      obtain ⟨x8, b9, hf⟩ := Option.bind_eq_some_iff.mp hf
      refine GX35_323 b9 dX35_goesTo_32 rfl ?_
      exact (pX35_goesTo_b35 hd hdr hsL hf).to ⟨rfl, trivial⟩
    · replace hf := (if_neg (show ¬ (p3 = 0) from c7)).symm.trans hf
      refine w_iconst dX35_goesTo_27 (v := 0) (by decide) ?_
      refine w_goto 35 dX35_goesTo_28 (by decide) ?_
      exact (pX35_goesTo_b35 hd hdr hsL hf).to ⟨rfl, trivial⟩
abbrev cX35_closeBox : ByteArray := prog_37_method_166_code
def yX35_closeBox : MethodName := ⟨RX35, "closeBox", "()V"⟩
def YX35_closeBox : eY := (yX35_closeBox, cX35_closeBox, 4, none, [])
theorem mX35_closeBox : e_mv YX35_closeBox RX35 0 := ⟨q5740, qs365, q5741, by decide, by decide +kernel, (e_sig (by decide +kernel))⟩
theorem dX35_closeBox_0 : decode cX35_closeBox 0 = .ok (.aload_n 0, 1) := dc_42 (by decide +kernel)
theorem dX35_closeBox_1 : decode cX35_closeBox 1 = .ok (.invokevirtual 587, 3) := dc_182 (a := 2) (b := 75) (n := 587) (by decide +kernel)
theorem dX35_closeBox_4 : decode cX35_closeBox 4 = .ok (.iconst 2, 1) := dc_5 (by decide +kernel)
theorem dX35_closeBox_5 : decode cX35_closeBox 5 = .ok (.if_icmp .ne 7, 3) := dc_160 (a := 0) (b := 7) (v := 7) (by decide +kernel)
theorem dX35_closeBox_8 : decode cX35_closeBox 8 = .ok (.aload_n 0, 1) := dc_42 (by decide +kernel)
theorem dX35_closeBox_9 : decode cX35_closeBox 9 = .ok (.invokevirtual 1136, 3) := dc_182 (a := 4) (b := 112) (n := 1136) (by decide +kernel)
theorem dX35_closeBox_12 : decode cX35_closeBox 12 = .ok (.aload_n 0, 1) := dc_42 (by decide +kernel)
theorem dX35_closeBox_13 : decode cX35_closeBox 13 = .ok (.getfield 321, 3) := dc_180 (a := 1) (b := 65) (n := 321) (by decide +kernel)
theorem dX35_closeBox_16 : decode cX35_closeBox 16 = .ok (.ifCond .le 4, 3) := dc_158 (a := 0) (b := 4) (v := 4) (by decide +kernel)
theorem dX35_closeBox_19 : decode cX35_closeBox 19 = .ok (.return_, 1) := dc_177 (by decide +kernel)
theorem dX35_closeBox_20 : decode cX35_closeBox 20 = .ok (.aload_n 0, 1) := dc_42 (by decide +kernel)
theorem dX35_closeBox_21 : decode cX35_closeBox 21 = .ok (.getfield 323, 3) := dc_180 (a := 1) (b := 67) (n := 323) (by decide +kernel)
theorem dX35_closeBox_24 : decode cX35_closeBox 24 = .ok (.istore_n 1, 1) := dc_60 (by decide +kernel)
theorem dX35_closeBox_25 : decode cX35_closeBox 25 = .ok (.aload_n 0, 1) := dc_42 (by decide +kernel)
theorem dX35_closeBox_26 : decode cX35_closeBox 26 = .ok (.getfield 130, 3) := dc_180 (a := 0) (b := 130) (n := 130) (by decide +kernel)
theorem dX35_closeBox_29 : decode cX35_closeBox 29 = .ok (.aload_n 0, 1) := dc_42 (by decide +kernel)
theorem dX35_closeBox_30 : decode cX35_closeBox 30 = .ok (.getfield 366, 3) := dc_180 (a := 1) (b := 110) (n := 366) (by decide +kernel)
theorem dX35_closeBox_33 : decode cX35_closeBox 33 = .ok (.iconst 1, 1) := dc_4 (by decide +kernel)
theorem dX35_closeBox_34 : decode cX35_closeBox 34 = .ok (.isub, 1) := dc_100 (by decide +kernel)
theorem dX35_closeBox_35 : decode cX35_closeBox 35 = .ok (.iaload, 1) := dc_46 (by decide +kernel)
theorem dX35_closeBox_36 : decode cX35_closeBox 36 = .ok (.istore_n 2, 1) := dc_61 (by decide +kernel)
theorem dX35_closeBox_37 : decode cX35_closeBox 37 = .ok (.aload_n 0, 1) := dc_42 (by decide +kernel)
theorem dX35_closeBox_38 : decode cX35_closeBox 38 = .ok (.aload_n 0, 1) := dc_42 (by decide +kernel)
theorem dX35_closeBox_39 : decode cX35_closeBox 39 = .ok (.getfield 136, 3) := dc_180 (a := 0) (b := 136) (n := 136) (by decide +kernel)
theorem dX35_closeBox_42 : decode cX35_closeBox 42 = .ok (.iload_n 2, 1) := dc_28 (by decide +kernel)
theorem dX35_closeBox_43 : decode cX35_closeBox 43 = .ok (.aload_n 0, 1) := dc_42 (by decide +kernel)
theorem dX35_closeBox_44 : decode cX35_closeBox 44 = .ok (.getfield 370, 3) := dc_180 (a := 1) (b := 114) (n := 370) (by decide +kernel)
theorem dX35_closeBox_47 : decode cX35_closeBox 47 = .ok (.aload_n 0, 1) := dc_42 (by decide +kernel)
theorem dX35_closeBox_48 : decode cX35_closeBox 48 = .ok (.getfield 71, 3) := dc_180 (a := 0) (b := 71) (n := 71) (by decide +kernel)
theorem dX35_closeBox_51 : decode cX35_closeBox 51 = .ok (.iload_n 1, 1) := dc_27 (by decide +kernel)
theorem dX35_closeBox_52 : decode cX35_closeBox 52 = .ok (.baload, 1) := dc_51 (by decide +kernel)
theorem dX35_closeBox_53 : decode cX35_closeBox 53 = .ok (.aload_n 0, 1) := dc_42 (by decide +kernel)
theorem dX35_closeBox_54 : decode cX35_closeBox 54 = .ok (.getfield 75, 3) := dc_180 (a := 0) (b := 75) (n := 75) (by decide +kernel)
theorem dX35_closeBox_57 : decode cX35_closeBox 57 = .ok (.iload_n 1, 1) := dc_27 (by decide +kernel)
theorem dX35_closeBox_58 : decode cX35_closeBox 58 = .ok (.iaload, 1) := dc_46 (by decide +kernel)
theorem dX35_closeBox_59 : decode cX35_closeBox 59 = .ok (.aload_n 0, 1) := dc_42 (by decide +kernel)
theorem dX35_closeBox_60 : decode cX35_closeBox 60 = .ok (.getfield 78, 3) := dc_180 (a := 0) (b := 78) (n := 78) (by decide +kernel)
theorem dX35_closeBox_63 : decode cX35_closeBox 63 = .ok (.iload_n 1, 1) := dc_27 (by decide +kernel)
theorem dX35_closeBox_64 : decode cX35_closeBox 64 = .ok (.iaload, 1) := dc_46 (by decide +kernel)
theorem dX35_closeBox_65 : decode cX35_closeBox 65 = .ok (.invokevirtual 879, 3) := dc_182 (a := 3) (b := 111) (n := 879) (by decide +kernel)
theorem dX35_closeBox_68 : decode cX35_closeBox 68 = .ok (.istore_n 3, 1) := dc_62 (by decide +kernel)
theorem dX35_closeBox_69 : decode cX35_closeBox 69 = .ok (.aload_n 0, 1) := dc_42 (by decide +kernel)
theorem dX35_closeBox_70 : decode cX35_closeBox 70 = .ok (.getfield 321, 3) := dc_180 (a := 1) (b := 65) (n := 321) (by decide +kernel)
theorem dX35_closeBox_73 : decode cX35_closeBox 73 = .ok (.ifCond .le 4, 3) := dc_158 (a := 0) (b := 4) (v := 4) (by decide +kernel)
theorem dX35_closeBox_76 : decode cX35_closeBox 76 = .ok (.return_, 1) := dc_177 (by decide +kernel)
theorem dX35_closeBox_77 : decode cX35_closeBox 77 = .ok (.aload_n 0, 1) := dc_42 (by decide +kernel)
theorem dX35_closeBox_78 : decode cX35_closeBox 78 = .ok (.dup, 1) := dc_89 (by decide +kernel)
theorem dX35_closeBox_79 : decode cX35_closeBox 79 = .ok (.getfield 366, 3) := dc_180 (a := 1) (b := 110) (n := 366) (by decide +kernel)
theorem dX35_closeBox_82 : decode cX35_closeBox 82 = .ok (.iconst 1, 1) := dc_4 (by decide +kernel)
theorem dX35_closeBox_83 : decode cX35_closeBox 83 = .ok (.isub, 1) := dc_100 (by decide +kernel)
theorem dX35_closeBox_84 : decode cX35_closeBox 84 = .ok (.putfield 366, 3) := dc_181 (a := 1) (b := 110) (n := 366) (by decide +kernel)
theorem dX35_closeBox_87 : decode cX35_closeBox 87 = .ok (.aload_n 0, 1) := dc_42 (by decide +kernel)
theorem dX35_closeBox_88 : decode cX35_closeBox 88 = .ok (.iload_n 2, 1) := dc_28 (by decide +kernel)
theorem dX35_closeBox_89 : decode cX35_closeBox 89 = .ok (.putfield 370, 3) := dc_181 (a := 1) (b := 114) (n := 370) (by decide +kernel)
theorem dX35_closeBox_92 : decode cX35_closeBox 92 = .ok (.aload_n 0, 1) := dc_42 (by decide +kernel)
theorem dX35_closeBox_93 : decode cX35_closeBox 93 = .ok (.dup, 1) := dc_89 (by decide +kernel)
theorem dX35_closeBox_94 : decode cX35_closeBox 94 = .ok (.getfield 323, 3) := dc_180 (a := 1) (b := 67) (n := 323) (by decide +kernel)
theorem dX35_closeBox_97 : decode cX35_closeBox 97 = .ok (.iconst 1, 1) := dc_4 (by decide +kernel)
theorem dX35_closeBox_98 : decode cX35_closeBox 98 = .ok (.isub, 1) := dc_100 (by decide +kernel)
theorem dX35_closeBox_99 : decode cX35_closeBox 99 = .ok (.putfield 323, 3) := dc_181 (a := 1) (b := 67) (n := 323) (by decide +kernel)
theorem dX35_closeBox_102 : decode cX35_closeBox 102 = .ok (.aload_n 0, 1) := dc_42 (by decide +kernel)
theorem dX35_closeBox_103 : decode cX35_closeBox 103 = .ok (.iload_n 3, 1) := dc_29 (by decide +kernel)
theorem dX35_closeBox_104 : decode cX35_closeBox 104 = .ok (.aload_n 0, 1) := dc_42 (by decide +kernel)
theorem dX35_closeBox_105 : decode cX35_closeBox 105 = .ok (.getfield 81, 3) := dc_180 (a := 0) (b := 81) (n := 81) (by decide +kernel)
theorem dX35_closeBox_108 : decode cX35_closeBox 108 = .ok (.iload_n 1, 1) := dc_27 (by decide +kernel)
theorem dX35_closeBox_109 : decode cX35_closeBox 109 = .ok (.iaload, 1) := dc_46 (by decide +kernel)
theorem dX35_closeBox_110 : decode cX35_closeBox 110 = .ok (.aload_n 0, 1) := dc_42 (by decide +kernel)
theorem dX35_closeBox_111 : decode cX35_closeBox 111 = .ok (.getfield 84, 3) := dc_180 (a := 0) (b := 84) (n := 84) (by decide +kernel)
theorem dX35_closeBox_114 : decode cX35_closeBox 114 = .ok (.iload_n 1, 1) := dc_27 (by decide +kernel)
theorem dX35_closeBox_115 : decode cX35_closeBox 115 = .ok (.iaload, 1) := dc_46 (by decide +kernel)
theorem dX35_closeBox_116 : decode cX35_closeBox 116 = .ok (.aload_n 0, 1) := dc_42 (by decide +kernel)
theorem dX35_closeBox_117 : decode cX35_closeBox 117 = .ok (.getfield 87, 3) := dc_180 (a := 0) (b := 87) (n := 87) (by decide +kernel)
theorem dX35_closeBox_120 : decode cX35_closeBox 120 = .ok (.iload_n 1, 1) := dc_27 (by decide +kernel)
theorem dX35_closeBox_121 : decode cX35_closeBox 121 = .ok (.baload, 1) := dc_51 (by decide +kernel)
theorem dX35_closeBox_122 : decode cX35_closeBox 122 = .ok (.invokevirtual 1139, 3) := dc_182 (a := 4) (b := 115) (n := 1139) (by decide +kernel)
theorem dX35_closeBox_125 : decode cX35_closeBox 125 = .ok (.return_, 1) := dc_177 (by decide +kernel)
theorem GX35_71 {w : eW} {d : Nat} {Y : eY} {pc : Nat} {ls : eL} {st : List Value} {h : eH} {Q : eO → eH → Prop} {a : Nat} {x : Nat} (hf : g_A 34 h a 24 = some x) (hd : decode Y.2.1 pc = .ok (.getfield 71, 3)) (hY : Y.1.cls = RX35) (kk : wp w d Y (pc + 3) ls (.ref x :: st) h Q) : wp w d Y pc ls (.ref a :: st) h Q := x_gA (ci := 34) (k := 24) hf hd rfl (by decide) (by rw [hY]; exact q4526) kk
theorem GX35_75 {w : eW} {d : Nat} {Y : eY} {pc : Nat} {ls : eL} {st : List Value} {h : eH} {Q : eO → eH → Prop} {a : Nat} {x : Nat} (hf : g_A 34 h a 25 = some x) (hd : decode Y.2.1 pc = .ok (.getfield 75, 3)) (hY : Y.1.cls = RX35) (kk : wp w d Y (pc + 3) ls (.ref x :: st) h Q) : wp w d Y pc ls (.ref a :: st) h Q := x_gA (ci := 34) (k := 25) hf hd rfl (by decide) (by rw [hY]; exact q4527) kk
theorem GX35_78 {w : eW} {d : Nat} {Y : eY} {pc : Nat} {ls : eL} {st : List Value} {h : eH} {Q : eO → eH → Prop} {a : Nat} {x : Nat} (hf : g_A 34 h a 26 = some x) (hd : decode Y.2.1 pc = .ok (.getfield 78, 3)) (hY : Y.1.cls = RX35) (kk : wp w d Y (pc + 3) ls (.ref x :: st) h Q) : wp w d Y pc ls (.ref a :: st) h Q := x_gA (ci := 34) (k := 26) hf hd rfl (by decide) (by rw [hY]; exact q4528) kk
theorem GX35_81 {w : eW} {d : Nat} {Y : eY} {pc : Nat} {ls : eL} {st : List Value} {h : eH} {Q : eO → eH → Prop} {a : Nat} {x : Nat} (hf : g_A 34 h a 27 = some x) (hd : decode Y.2.1 pc = .ok (.getfield 81, 3)) (hY : Y.1.cls = RX35) (kk : wp w d Y (pc + 3) ls (.ref x :: st) h Q) : wp w d Y pc ls (.ref a :: st) h Q := x_gA (ci := 34) (k := 27) hf hd rfl (by decide) (by rw [hY]; exact q4529) kk
theorem GX35_84 {w : eW} {d : Nat} {Y : eY} {pc : Nat} {ls : eL} {st : List Value} {h : eH} {Q : eO → eH → Prop} {a : Nat} {x : Nat} (hf : g_A 34 h a 28 = some x) (hd : decode Y.2.1 pc = .ok (.getfield 84, 3)) (hY : Y.1.cls = RX35) (kk : wp w d Y (pc + 3) ls (.ref x :: st) h Q) : wp w d Y pc ls (.ref a :: st) h Q := x_gA (ci := 34) (k := 28) hf hd rfl (by decide) (by rw [hY]; exact q4530) kk
theorem GX35_87 {w : eW} {d : Nat} {Y : eY} {pc : Nat} {ls : eL} {st : List Value} {h : eH} {Q : eO → eH → Prop} {a : Nat} {x : Nat} (hf : g_A 34 h a 29 = some x) (hd : decode Y.2.1 pc = .ok (.getfield 87, 3)) (hY : Y.1.cls = RX35) (kk : wp w d Y (pc + 3) ls (.ref x :: st) h Q) : wp w d Y pc ls (.ref a :: st) h Q := x_gA (ci := 34) (k := 29) hf hd rfl (by decide) (by rw [hY]; exact q4531) kk
def fX35_closeBox_b12 (N : Nat) (sL : Nat → Int32 → Int64 → Int64 → eH → Option (Int32 × eH)) (l0 : Nat) (h : eH) : Option (Unit × eH) :=
  (g_I 34 h l0 46).bind fun x1 =>
  if x1 ≤ 0 then
    (g_I 34 h l0 21).bind fun x4 =>
    (g_A 34 h l0 53).bind fun a6 =>
    (g_I 34 h l0 51).bind fun x8 =>
    (r_I 100 h a6 (x8 - (1 : Int32))).bind fun x10 =>
    (g_A 34 h l0 55).bind fun a12 =>
    (g_I 34 h l0 56).bind fun x14 =>
    (g_A 34 h l0 24).bind fun a16 =>
    (r_I 103 h a16 x4).bind fun x18 =>
    (g_A 34 h l0 25).bind fun a20 =>
    (r_I 100 h a20 x4).bind fun x22 =>
    (g_A 34 h l0 26).bind fun a24 =>
    (r_I 100 h a24 x4).bind fun x26 =>
    (k_ok 34 h l0).bind fun _ =>
    (fX35_pack N l0 a12 x10 x14 x18 x22 x26 h).bind fun q29 =>
    (g_I 34 q29.2 l0 46).bind fun x30 =>
    if x30 ≤ 0 then
      (g_I 34 q29.2 l0 51).bind fun x33 =>
      (p_V 34 q29.2 l0 51 (.int (x33 - (1 : Int32)))).bind fun h35 =>
      (p_V 34 h35 l0 56 (.int x10)).bind fun h37 =>
      (g_I 34 h37 l0 21).bind fun x39 =>
      (p_V 34 h37 l0 21 (.int (x39 - (1 : Int32)))).bind fun h41 =>
      (g_A 34 h41 l0 27).bind fun a43 =>
      (r_I 100 h41 a43 x4).bind fun x45 =>
      (g_A 34 h41 l0 28).bind fun a47 =>
      (r_I 100 h41 a47 x4).bind fun x49 =>
      (g_A 34 h41 l0 29).bind fun a51 =>
      (r_I 103 h41 a51 x4).bind fun x53 =>
      (k_ok 34 h41 l0).bind fun _ =>
      (fX35_goesTo N sL l0 q29.1 x45 x49 x53 h41).bind fun q56 =>
      some ((), q56.2)
    else
      some ((), q29.2)
  else
    some ((), h)
theorem pX35_closeBox_b12 {w : eW} {d : Nat} {dr : Nat} (hd : dr + 14 ≤ d + 1) (hdr : 12 ≤ dr) {N : Nat} {sL : Nat → Int32 → Int64 → Int64 → eH → Option (Int32 × eH)} (hsL : ∀ a t0 t1 t2 h q, sL a t0 t1 t2 h = some q → wm w dr YX35_layBox [.ref a, .int t0, .long t1, .long t2] h (e_is (e_rn c_I q))) {l0 : Nat} {h : eH} {q} (hf : fX35_closeBox_b12 N sL l0 h = some q) : wp w (d + 1) YX35_closeBox 12 [some (.ref l0), none, none, none] [] h (e_is (e_rn c_V q)) := by
  unfold fX35_closeBox_b12 at hf
  refine w_aload_n dX35_closeBox_12 rfl rfl ?_
  obtain ⟨x1, b2, hf⟩ := Option.bind_eq_some_iff.mp hf
  refine GX35_321 b2 dX35_closeBox_13 rfl ?_
  refine w_if_le 20 dX35_closeBox_16 (by decide) (fun c3 => ?_) (fun c3 => ?_)
  · replace hf := (if_pos (show x1 ≤ 0 from c3)).symm.trans hf
    refine w_aload_n dX35_closeBox_20 rfl rfl ?_
    obtain ⟨x4, b5, hf⟩ := Option.bind_eq_some_iff.mp hf
    refine GX35_323 b5 dX35_closeBox_21 rfl ?_
    refine w_istore_n dX35_closeBox_24 rfl (by decide) (ls' := [some (.ref l0), some (.int x4), none, none]) rfl ?_
    refine w_aload_n dX35_closeBox_25 rfl rfl ?_
    obtain ⟨a6, b7, hf⟩ := Option.bind_eq_some_iff.mp hf
    refine GX35_130 b7 dX35_closeBox_26 rfl ?_
    refine w_aload_n dX35_closeBox_29 rfl rfl ?_
    obtain ⟨x8, b9, hf⟩ := Option.bind_eq_some_iff.mp hf
    refine GX35_366 b9 dX35_closeBox_30 rfl ?_
    refine w_iconst dX35_closeBox_33 (v := 1) (by decide) ?_
    refine w_isub dX35_closeBox_34 ?_
    obtain ⟨x10, b11, hf⟩ := Option.bind_eq_some_iff.mp hf
    refine x_rI b11 dX35_closeBox_35 ?_
    refine w_istore_n dX35_closeBox_36 rfl (by decide) (ls' := [some (.ref l0), some (.int x4), some (.int x10), none]) rfl ?_
    refine w_aload_n dX35_closeBox_37 rfl rfl ?_
    refine w_aload_n dX35_closeBox_38 rfl rfl ?_
    obtain ⟨a12, b13, hf⟩ := Option.bind_eq_some_iff.mp hf
    refine GX35_136 b13 dX35_closeBox_39 rfl ?_
    refine w_iload_n dX35_closeBox_42 rfl rfl ?_
    refine w_aload_n dX35_closeBox_43 rfl rfl ?_
    obtain ⟨x14, b15, hf⟩ := Option.bind_eq_some_iff.mp hf
    refine GX35_370 b15 dX35_closeBox_44 rfl ?_
    refine w_aload_n dX35_closeBox_47 rfl rfl ?_
    obtain ⟨a16, b17, hf⟩ := Option.bind_eq_some_iff.mp hf
    refine GX35_71 b17 dX35_closeBox_48 rfl ?_
    refine w_iload_n dX35_closeBox_51 rfl rfl ?_
    obtain ⟨x18, b19, hf⟩ := Option.bind_eq_some_iff.mp hf
    refine x_rZ b19 dX35_closeBox_52 ?_
    refine w_aload_n dX35_closeBox_53 rfl rfl ?_
    obtain ⟨a20, b21, hf⟩ := Option.bind_eq_some_iff.mp hf
    refine GX35_75 b21 dX35_closeBox_54 rfl ?_
    refine w_iload_n dX35_closeBox_57 rfl rfl ?_
    obtain ⟨x22, b23, hf⟩ := Option.bind_eq_some_iff.mp hf
    refine x_rI b23 dX35_closeBox_58 ?_
    refine w_aload_n dX35_closeBox_59 rfl rfl ?_
    obtain ⟨a24, b25, hf⟩ := Option.bind_eq_some_iff.mp hf
    refine GX35_78 b25 dX35_closeBox_60 rfl ?_
    refine w_iload_n dX35_closeBox_63 rfl rfl ?_
    obtain ⟨x26, b27, hf⟩ := Option.bind_eq_some_iff.mp hf
    refine x_rI b27 dX35_closeBox_64 ?_
    obtain ⟨_, b28, hf⟩ := Option.bind_eq_some_iff.mp hf
    refine x_cnI hf (e_stV (Yc := YX35_pack) (ci := 34) (av := [.ref a12, .int x10, .int x14, .int x18, .int x22, .int x26]) (st := []) dX35_closeBox_65 q5654 mX35_pack rfl (k_ok_some b28).1 (k_ok_some b28).2) mX35_pack.2.2.1 mX35_pack.2.2.2.2.1 (Nat.le_of_ble_eq_true rfl) (Nat.le_of_ble_eq_true rfl) (fun q hq => pX35_pack (by omega) hq) (fun q29 hf => ?_)
    refine w_istore_n dX35_closeBox_68 rfl (by decide) (ls' := [some (.ref l0), some (.int x4), some (.int x10), some (.int q29.1)]) rfl ?_
    refine w_aload_n dX35_closeBox_69 rfl rfl ?_
    obtain ⟨x30, b31, hf⟩ := Option.bind_eq_some_iff.mp hf
    refine GX35_321 b31 dX35_closeBox_70 rfl ?_
    refine w_if_le 77 dX35_closeBox_73 (by decide) (fun c32 => ?_) (fun c32 => ?_)
    · replace hf := (if_pos (show x30 ≤ 0 from c32)).symm.trans hf
      refine w_aload_n dX35_closeBox_77 rfl rfl ?_
      refine w_dup dX35_closeBox_78 rfl ?_
      obtain ⟨x33, b34, hf⟩ := Option.bind_eq_some_iff.mp hf
      refine GX35_366 b34 dX35_closeBox_79 rfl ?_
      refine w_iconst dX35_closeBox_82 (v := 1) (by decide) ?_
      refine w_isub dX35_closeBox_83 ?_
      obtain ⟨h35, b36, hf⟩ := Option.bind_eq_some_iff.mp hf
      refine SX35_366 b36 dX35_closeBox_84 rfl ?_
      refine w_aload_n dX35_closeBox_87 rfl rfl ?_
      refine w_iload_n dX35_closeBox_88 rfl rfl ?_
      obtain ⟨h37, b38, hf⟩ := Option.bind_eq_some_iff.mp hf
      refine SX35_370 b38 dX35_closeBox_89 rfl ?_
      refine w_aload_n dX35_closeBox_92 rfl rfl ?_
      refine w_dup dX35_closeBox_93 rfl ?_
      obtain ⟨x39, b40, hf⟩ := Option.bind_eq_some_iff.mp hf
      refine GX35_323 b40 dX35_closeBox_94 rfl ?_
      refine w_iconst dX35_closeBox_97 (v := 1) (by decide) ?_
      refine w_isub dX35_closeBox_98 ?_
      obtain ⟨h41, b42, hf⟩ := Option.bind_eq_some_iff.mp hf
      refine SX35_323 b42 dX35_closeBox_99 rfl ?_
      refine w_aload_n dX35_closeBox_102 rfl rfl ?_
      refine w_iload_n dX35_closeBox_103 rfl rfl ?_
      refine w_aload_n dX35_closeBox_104 rfl rfl ?_
      obtain ⟨a43, b44, hf⟩ := Option.bind_eq_some_iff.mp hf
      refine GX35_81 b44 dX35_closeBox_105 rfl ?_
      refine w_iload_n dX35_closeBox_108 rfl rfl ?_
      obtain ⟨x45, b46, hf⟩ := Option.bind_eq_some_iff.mp hf
      refine x_rI b46 dX35_closeBox_109 ?_
      refine w_aload_n dX35_closeBox_110 rfl rfl ?_
      obtain ⟨a47, b48, hf⟩ := Option.bind_eq_some_iff.mp hf
      refine GX35_84 b48 dX35_closeBox_111 rfl ?_
      refine w_iload_n dX35_closeBox_114 rfl rfl ?_
      obtain ⟨x49, b50, hf⟩ := Option.bind_eq_some_iff.mp hf
      refine x_rI b50 dX35_closeBox_115 ?_
      refine w_aload_n dX35_closeBox_116 rfl rfl ?_
      obtain ⟨a51, b52, hf⟩ := Option.bind_eq_some_iff.mp hf
      refine GX35_87 b52 dX35_closeBox_117 rfl ?_
      refine w_iload_n dX35_closeBox_120 rfl rfl ?_
      obtain ⟨x53, b54, hf⟩ := Option.bind_eq_some_iff.mp hf
      refine x_rZ b54 dX35_closeBox_121 ?_
      obtain ⟨_, b55, hf⟩ := Option.bind_eq_some_iff.mp hf
      refine x_cnV hf (e_stV (Yc := YX35_goesTo) (ci := 34) (av := [.int q29.1, .int x45, .int x49, .int x53]) (st := []) dX35_closeBox_122 q5895 mX35_goesTo rfl (k_ok_some b55).1 (k_ok_some b55).2) mX35_goesTo.2.2.1 mX35_goesTo.2.2.2.2.1 (Nat.le_of_ble_eq_true rfl) (Nat.le_of_ble_eq_true rfl) (fun q hq => pX35_goesTo (by omega) hdr hsL hq) (fun q56 hf => ?_)
      cases hf
      exact w_vret dX35_closeBox_125 rfl rfl
    · replace hf := (if_neg (show ¬ (x30 ≤ 0) from c32)).symm.trans hf
      cases hf
      exact w_vret dX35_closeBox_76 rfl rfl
  · replace hf := (if_neg (show ¬ (x1 ≤ 0) from c3)).symm.trans hf
    cases hf
    exact w_vret dX35_closeBox_19 rfl rfl
def fX35_closeBox (N : Nat) (sL : Nat → Int32 → Int64 → Int64 → eH → Option (Int32 × eH)) (this : Nat) (h : eH) : Option (Unit × eH) :=
  (k_ok 34 h this).bind fun _ =>
  (fX35_mode this h).bind fun q2 =>
  if ¬ q2.1 = (2 : Int32) then
    fX35_closeBox_b12 N sL this q2.2
  else
    (k_ok 34 q2.2 this).bind fun _ =>
    (fX35_endParagraph N sL this q2.2).bind fun q5 =>
    fX35_closeBox_b12 N sL this q5.2
theorem pX35_closeBox {w : eW} {d : Nat} {dr : Nat} (hd : dr + 14 ≤ d) (hdr : 12 ≤ dr) {N : Nat} {sL : Nat → Int32 → Int64 → Int64 → eH → Option (Int32 × eH)} (hsL : ∀ a t0 t1 t2 h q, sL a t0 t1 t2 h = some q → wm w dr YX35_layBox [.ref a, .int t0, .long t1, .long t2] h (e_is (e_rn c_I q))) {this : Nat} {h : eH} {q} (hf : fX35_closeBox N sL this h = some q) : wm w d YX35_closeBox [.ref this] h (e_is (e_rn c_V q)) := by
  obtain ⟨d, rfl⟩ : ∃ e, d = e + 1 := ⟨d - 1, by omega⟩
  show wp w (d + 1) YX35_closeBox 0 [some (.ref this), none, none, none] [] h _
  unfold fX35_closeBox at hf
  refine w_aload_n dX35_closeBox_0 rfl rfl ?_
  obtain ⟨_, b1, hf⟩ := Option.bind_eq_some_iff.mp hf
  refine x_cnI hf (e_stV (Yc := YX35_mode) (ci := 34) (av := []) (st := []) dX35_closeBox_1 q5417 mX35_mode rfl (k_ok_some b1).1 (k_ok_some b1).2) mX35_mode.2.2.1 mX35_mode.2.2.2.2.1 (Nat.le_of_ble_eq_true rfl) (Nat.le_of_ble_eq_true rfl) (fun q hq => pX35_mode (by omega) hq) (fun q2 hf => ?_)
  refine w_iconst dX35_closeBox_4 (v := 2) (by decide) ?_
  refine w_icmp_ne 12 dX35_closeBox_5 (by decide) (fun c3 => ?_) (fun c3 => ?_)
  · replace hf := (if_pos (show ¬ q2.1 = (2 : Int32) from c3)).symm.trans hf
    exact (pX35_closeBox_b12 hd hdr hsL hf).to ⟨rfl, trivial⟩
  · replace hf := (if_neg (show ¬ (¬ q2.1 = (2 : Int32)) from (fun z => z c3))).symm.trans hf
    refine w_aload_n dX35_closeBox_8 rfl rfl ?_
    obtain ⟨_, b4, hf⟩ := Option.bind_eq_some_iff.mp hf
    refine x_cnV hf (e_stV (Yc := YX35_endParagraph) (ci := 34) (av := []) (st := []) dX35_closeBox_9 q5742 mX35_endParagraph rfl (k_ok_some b4).1 (k_ok_some b4).2) mX35_endParagraph.2.2.1 mX35_endParagraph.2.2.2.2.1 (Nat.le_of_ble_eq_true rfl) (Nat.le_of_ble_eq_true rfl) (fun q hq => pX35_endParagraph (by omega) hdr hsL hq) (fun q5 hf => ?_)
    exact (pX35_closeBox_b12 hd hdr hsL hf).to ⟨rfl, trivial⟩
abbrev cX35_closeBrace : ByteArray := prog_37_method_165_code
def yX35_closeBrace : MethodName := ⟨RX35, "closeBrace", "()V"⟩
def YX35_closeBrace : eY := (yX35_closeBrace, cX35_closeBrace, 1, none, [])
theorem mX35_closeBrace : e_mv YX35_closeBrace RX35 0 := ⟨q5736, qs364, q5737, by decide, by decide +kernel, (e_sig (by decide +kernel))⟩
theorem dX35_closeBrace_0 : decode cX35_closeBrace 0 = .ok (.aload_n 0, 1) := dc_42 (by decide +kernel)
theorem dX35_closeBrace_1 : decode cX35_closeBrace 1 = .ok (.getfield 323, 3) := dc_180 (a := 1) (b := 67) (n := 323) (by decide +kernel)
theorem dX35_closeBrace_4 : decode cX35_closeBrace 4 = .ok (.ifCond .eq 16, 3) := dc_153 (a := 0) (b := 16) (v := 16) (by decide +kernel)
theorem dX35_closeBrace_7 : decode cX35_closeBrace 7 = .ok (.aload_n 0, 1) := dc_42 (by decide +kernel)
theorem dX35_closeBrace_8 : decode cX35_closeBrace 8 = .ok (.getfield 68, 3) := dc_180 (a := 0) (b := 68) (n := 68) (by decide +kernel)
theorem dX35_closeBrace_11 : decode cX35_closeBrace 11 = .ok (.aload_n 0, 1) := dc_42 (by decide +kernel)
theorem dX35_closeBrace_12 : decode cX35_closeBrace 12 = .ok (.getfield 323, 3) := dc_180 (a := 1) (b := 67) (n := 323) (by decide +kernel)
theorem dX35_closeBrace_15 : decode cX35_closeBrace 15 = .ok (.iaload, 1) := dc_46 (by decide +kernel)
theorem dX35_closeBrace_16 : decode cX35_closeBrace 16 = .ok (.iconst 2, 1) := dc_5 (by decide +kernel)
theorem dX35_closeBrace_17 : decode cX35_closeBrace 17 = .ok (.if_icmp .ne 12, 3) := dc_160 (a := 0) (b := 12) (v := 12) (by decide +kernel)
theorem dX35_closeBrace_20 : decode cX35_closeBrace 20 = .ok (.aload_n 0, 1) := dc_42 (by decide +kernel)
theorem dX35_closeBrace_21 : decode cX35_closeBrace 21 = .ok (.bipush 13, 2) := dc_16 (a := 13) (v := 13) (by decide +kernel)
theorem dX35_closeBrace_23 : decode cX35_closeBrace 23 = .ok (.invokevirtual 428, 3) := dc_182 (a := 1) (b := 172) (n := 428) (by decide +kernel)
theorem dX35_closeBrace_26 : decode cX35_closeBrace 26 = .ok (.goto 33, 3) := dc_167 (a := 0) (b := 33) (v := 33) (by decide +kernel)
theorem dX35_closeBrace_29 : decode cX35_closeBrace 29 = .ok (.aload_n 0, 1) := dc_42 (by decide +kernel)
theorem dX35_closeBrace_30 : decode cX35_closeBrace 30 = .ok (.getfield 68, 3) := dc_180 (a := 0) (b := 68) (n := 68) (by decide +kernel)
theorem dX35_closeBrace_33 : decode cX35_closeBrace 33 = .ok (.aload_n 0, 1) := dc_42 (by decide +kernel)
theorem dX35_closeBrace_34 : decode cX35_closeBrace 34 = .ok (.getfield 323, 3) := dc_180 (a := 1) (b := 67) (n := 323) (by decide +kernel)
theorem dX35_closeBrace_37 : decode cX35_closeBrace 37 = .ok (.iaload, 1) := dc_46 (by decide +kernel)
theorem dX35_closeBrace_38 : decode cX35_closeBrace 38 = .ok (.iconst 1, 1) := dc_4 (by decide +kernel)
theorem dX35_closeBrace_39 : decode cX35_closeBrace 39 = .ok (.if_icmp .ne 16, 3) := dc_160 (a := 0) (b := 16) (v := 16) (by decide +kernel)
theorem dX35_closeBrace_42 : decode cX35_closeBrace 42 = .ok (.aload_n 0, 1) := dc_42 (by decide +kernel)
theorem dX35_closeBrace_43 : decode cX35_closeBrace 43 = .ok (.dup, 1) := dc_89 (by decide +kernel)
theorem dX35_closeBrace_44 : decode cX35_closeBrace 44 = .ok (.getfield 323, 3) := dc_180 (a := 1) (b := 67) (n := 323) (by decide +kernel)
theorem dX35_closeBrace_47 : decode cX35_closeBrace 47 = .ok (.iconst 1, 1) := dc_4 (by decide +kernel)
theorem dX35_closeBrace_48 : decode cX35_closeBrace 48 = .ok (.isub, 1) := dc_100 (by decide +kernel)
theorem dX35_closeBrace_49 : decode cX35_closeBrace 49 = .ok (.putfield 323, 3) := dc_181 (a := 1) (b := 67) (n := 323) (by decide +kernel)
theorem dX35_closeBrace_52 : decode cX35_closeBrace 52 = .ok (.goto 7, 3) := dc_167 (a := 0) (b := 7) (v := 7) (by decide +kernel)
theorem dX35_closeBrace_55 : decode cX35_closeBrace 55 = .ok (.aload_n 0, 1) := dc_42 (by decide +kernel)
theorem dX35_closeBrace_56 : decode cX35_closeBrace 56 = .ok (.invokevirtual 1133, 3) := dc_182 (a := 4) (b := 109) (n := 1133) (by decide +kernel)
theorem dX35_closeBrace_59 : decode cX35_closeBrace 59 = .ok (.return_, 1) := dc_177 (by decide +kernel)
theorem GX35_68 {w : eW} {d : Nat} {Y : eY} {pc : Nat} {ls : eL} {st : List Value} {h : eH} {Q : eO → eH → Prop} {a : Nat} {x : Nat} (hf : g_A 34 h a 23 = some x) (hd : decode Y.2.1 pc = .ok (.getfield 68, 3)) (hY : Y.1.cls = RX35) (kk : wp w d Y (pc + 3) ls (.ref x :: st) h Q) : wp w d Y pc ls (.ref a :: st) h Q := x_gA (ci := 34) (k := 23) hf hd rfl (by decide) (by rw [hY]; exact q4525) kk
def fX35_closeBrace_b59 (N : Nat) (sL : Nat → Int32 → Int64 → Int64 → eH → Option (Int32 × eH))  (h : eH) : Option (Unit × eH) :=
  some ((), h)
theorem pX35_closeBrace_b59 {w : eW} {d : Nat} {dr : Nat} (hd : dr + 15 ≤ d + 1) (hdr : 12 ≤ dr) {N : Nat} {sL : Nat → Int32 → Int64 → Int64 → eH → Option (Int32 × eH)} (hsL : ∀ a t0 t1 t2 h q, sL a t0 t1 t2 h = some q → wm w dr YX35_layBox [.ref a, .int t0, .long t1, .long t2] h (e_is (e_rn c_I q)))  {h : eH} {q} (hf : fX35_closeBrace_b59 N sL h = some q) : wp w (d + 1) YX35_closeBrace 59 [none] [] h (e_is (e_rn c_V q)) := by
  unfold fX35_closeBrace_b59 at hf
  cases hf
  exact w_vret dX35_closeBrace_59 rfl rfl
def fX35_closeBrace_b20 (N : Nat) (sL : Nat → Int32 → Int64 → Int64 → eH → Option (Int32 × eH)) (l0 : Nat) (h : eH) : Option (Unit × eH) :=
  (k_ok 34 h l0).bind fun _ =>
  (fX35_fail l0 (13 : Int32) h).bind fun q2 =>
  fX35_closeBrace_b59 N sL q2.2
theorem pX35_closeBrace_b20 {w : eW} {d : Nat} {dr : Nat} (hd : dr + 15 ≤ d + 1) (hdr : 12 ≤ dr) {N : Nat} {sL : Nat → Int32 → Int64 → Int64 → eH → Option (Int32 × eH)} (hsL : ∀ a t0 t1 t2 h q, sL a t0 t1 t2 h = some q → wm w dr YX35_layBox [.ref a, .int t0, .long t1, .long t2] h (e_is (e_rn c_I q))) {l0 : Nat} {h : eH} {q} (hf : fX35_closeBrace_b20 N sL l0 h = some q) : wp w (d + 1) YX35_closeBrace 20 [some (.ref l0)] [] h (e_is (e_rn c_V q)) := by
  unfold fX35_closeBrace_b20 at hf
  refine w_aload_n dX35_closeBrace_20 rfl rfl ?_
  refine w_bipush dX35_closeBrace_21 (v := 13) (by decide) ?_
  obtain ⟨_, b1, hf⟩ := Option.bind_eq_some_iff.mp hf
  refine x_cnV hf (e_stV (Yc := YX35_fail) (ci := 34) (av := [.int (13 : Int32)]) (st := []) dX35_closeBrace_23 q5109 mX35_fail rfl (k_ok_some b1).1 (k_ok_some b1).2) mX35_fail.2.2.1 mX35_fail.2.2.2.2.1 (Nat.le_of_ble_eq_true rfl) (Nat.le_of_ble_eq_true rfl) (fun q hq => pX35_fail (by omega) hq) (fun q2 hf => ?_)
  refine w_goto 59 dX35_closeBrace_26 (by decide) ?_
  exact (pX35_closeBrace_b59 hd hdr hsL hf).to trivial
def fX35_closeBrace (N : Nat) (sL : Nat → Int32 → Int64 → Int64 → eH → Option (Int32 × eH)) (this : Nat) (h : eH) : Option (Unit × eH) :=
  (g_I 34 h this 21).bind fun x1 =>
  if x1 = 0 then
    fX35_closeBrace_b20 N sL this h
  else
    (g_A 34 h this 23).bind fun a4 =>
    (g_I 34 h this 21).bind fun x6 =>
    (r_I 100 h a4 x6).bind fun x8 =>
    if ¬ x8 = (2 : Int32) then
      (g_A 34 h this 23).bind fun a11 =>
      (g_I 34 h this 21).bind fun x13 =>
      (r_I 100 h a11 x13).bind fun x15 =>
      if ¬ x15 = (1 : Int32) then
        (k_ok 34 h this).bind fun _ =>
        (fX35_closeBox N sL this h).bind fun q19 =>
        fX35_closeBrace_b59 N sL q19.2
      else
        (g_I 34 h this 21).bind fun x20 =>
        (p_V 34 h this 21 (.int (x20 - (1 : Int32)))).bind fun h22 =>
        fX35_closeBrace_b59 N sL h22
    else
      fX35_closeBrace_b20 N sL this h
theorem pX35_closeBrace {w : eW} {d : Nat} {dr : Nat} (hd : dr + 15 ≤ d) (hdr : 12 ≤ dr) {N : Nat} {sL : Nat → Int32 → Int64 → Int64 → eH → Option (Int32 × eH)} (hsL : ∀ a t0 t1 t2 h q, sL a t0 t1 t2 h = some q → wm w dr YX35_layBox [.ref a, .int t0, .long t1, .long t2] h (e_is (e_rn c_I q))) {this : Nat} {h : eH} {q} (hf : fX35_closeBrace N sL this h = some q) : wm w d YX35_closeBrace [.ref this] h (e_is (e_rn c_V q)) := by
  obtain ⟨d, rfl⟩ : ∃ e, d = e + 1 := ⟨d - 1, by omega⟩
  show wp w (d + 1) YX35_closeBrace 0 [some (.ref this)] [] h _
  unfold fX35_closeBrace at hf
  refine w_aload_n dX35_closeBrace_0 rfl rfl ?_
  obtain ⟨x1, b2, hf⟩ := Option.bind_eq_some_iff.mp hf
  refine GX35_323 b2 dX35_closeBrace_1 rfl ?_
  refine w_if_eq 20 dX35_closeBrace_4 (by decide) (fun c3 => ?_) (fun c3 => ?_)
  · replace hf := (if_pos (show x1 = 0 from c3)).symm.trans hf
    exact (pX35_closeBrace_b20 hd hdr hsL hf).to ⟨rfl, trivial⟩
  · replace hf := (if_neg (show ¬ (x1 = 0) from c3)).symm.trans hf
    refine w_aload_n dX35_closeBrace_7 rfl rfl ?_
    obtain ⟨a4, b5, hf⟩ := Option.bind_eq_some_iff.mp hf
    refine GX35_68 b5 dX35_closeBrace_8 rfl ?_
    refine w_aload_n dX35_closeBrace_11 rfl rfl ?_
    obtain ⟨x6, b7, hf⟩ := Option.bind_eq_some_iff.mp hf
    refine GX35_323 b7 dX35_closeBrace_12 rfl ?_
    obtain ⟨x8, b9, hf⟩ := Option.bind_eq_some_iff.mp hf
    refine x_rI b9 dX35_closeBrace_15 ?_
    refine w_iconst dX35_closeBrace_16 (v := 2) (by decide) ?_
    refine w_icmp_ne 29 dX35_closeBrace_17 (by decide) (fun c10 => ?_) (fun c10 => ?_)
    · replace hf := (if_pos (show ¬ x8 = (2 : Int32) from c10)).symm.trans hf
      refine w_aload_n dX35_closeBrace_29 rfl rfl ?_
      obtain ⟨a11, b12, hf⟩ := Option.bind_eq_some_iff.mp hf
      refine GX35_68 b12 dX35_closeBrace_30 rfl ?_
      refine w_aload_n dX35_closeBrace_33 rfl rfl ?_
      obtain ⟨x13, b14, hf⟩ := Option.bind_eq_some_iff.mp hf
      refine GX35_323 b14 dX35_closeBrace_34 rfl ?_
      obtain ⟨x15, b16, hf⟩ := Option.bind_eq_some_iff.mp hf
      refine x_rI b16 dX35_closeBrace_37 ?_
      refine w_iconst dX35_closeBrace_38 (v := 1) (by decide) ?_
      refine w_icmp_ne 55 dX35_closeBrace_39 (by decide) (fun c17 => ?_) (fun c17 => ?_)
      · replace hf := (if_pos (show ¬ x15 = (1 : Int32) from c17)).symm.trans hf
        refine w_aload_n dX35_closeBrace_55 rfl rfl ?_
        obtain ⟨_, b18, hf⟩ := Option.bind_eq_some_iff.mp hf
        refine x_cnV hf (e_stV (Yc := YX35_closeBox) (ci := 34) (av := []) (st := []) dX35_closeBrace_56 q5738 mX35_closeBox rfl (k_ok_some b18).1 (k_ok_some b18).2) mX35_closeBox.2.2.1 mX35_closeBox.2.2.2.2.1 (Nat.le_of_ble_eq_true rfl) (Nat.le_of_ble_eq_true rfl) (fun q hq => pX35_closeBox (by omega) hdr hsL hq) (fun q19 hf => ?_)
        exact (pX35_closeBrace_b59 hd hdr hsL hf).to trivial
      · replace hf := (if_neg (show ¬ (¬ x15 = (1 : Int32)) from (fun z => z c17))).symm.trans hf
        refine w_aload_n dX35_closeBrace_42 rfl rfl ?_
        refine w_dup dX35_closeBrace_43 rfl ?_
        obtain ⟨x20, b21, hf⟩ := Option.bind_eq_some_iff.mp hf
        refine GX35_323 b21 dX35_closeBrace_44 rfl ?_
        refine w_iconst dX35_closeBrace_47 (v := 1) (by decide) ?_
        refine w_isub dX35_closeBrace_48 ?_
        obtain ⟨h22, b23, hf⟩ := Option.bind_eq_some_iff.mp hf
        refine SX35_323 b23 dX35_closeBrace_49 rfl ?_
        refine w_goto 59 dX35_closeBrace_52 (by decide) ?_
        exact (pX35_closeBrace_b59 hd hdr hsL hf).to trivial
    · replace hf := (if_neg (show ¬ (¬ x8 = (2 : Int32)) from (fun z => z c10))).symm.trans hf
      exact (pX35_closeBrace_b20 hd hdr hsL hf).to ⟨rfl, trivial⟩
abbrev cX35_isExpandable : ByteArray := prog_37_method_36_code
def yX35_isExpandable : MethodName := ⟨RX35, "isExpandable", "(I)Z"⟩
def YX35_isExpandable : eY := (yX35_isExpandable, cX35_isExpandable, 3, (Option.some FieldType.boolean), [])
theorem mX35_isExpandable : e_mv YX35_isExpandable RX35 1 := ⟨q5121, qs246, q5122, by decide, by decide +kernel, (e_sig (by decide +kernel))⟩
theorem dX35_isExpandable_0 : decode cX35_isExpandable 0 = .ok (.iload_n 1, 1) := dc_27 (by decide +kernel)
theorem dX35_isExpandable_1 : decode cX35_isExpandable 1 = .ok (.iconst (-1), 1) := dc_2 (by decide +kernel)
theorem dX35_isExpandable_2 : decode cX35_isExpandable 2 = .ok (.if_icmp .eq 17, 3) := dc_159 (a := 0) (b := 17) (v := 17) (by decide +kernel)
theorem dX35_isExpandable_5 : decode cX35_isExpandable 5 = .ok (.iload_n 1, 1) := dc_27 (by decide +kernel)
theorem dX35_isExpandable_6 : decode cX35_isExpandable 6 = .ok (.invokestatic 467, 3) := dc_184 (a := 1) (b := 211) (n := 467) (by decide +kernel)
theorem dX35_isExpandable_9 : decode cX35_isExpandable 9 = .ok (.ifCond .ne 10, 3) := dc_154 (a := 0) (b := 10) (v := 10) (by decide +kernel)
theorem dX35_isExpandable_12 : decode cX35_isExpandable 12 = .ok (.iload_n 1, 1) := dc_27 (by decide +kernel)
theorem dX35_isExpandable_13 : decode cX35_isExpandable 13 = .ok (.invokestatic 459, 3) := dc_184 (a := 1) (b := 203) (n := 459) (by decide +kernel)
theorem dX35_isExpandable_16 : decode cX35_isExpandable 16 = .ok (.ifCond .eq 5, 3) := dc_153 (a := 0) (b := 5) (v := 5) (by decide +kernel)
theorem dX35_isExpandable_19 : decode cX35_isExpandable 19 = .ok (.iconst 0, 1) := dc_3 (by decide +kernel)
theorem dX35_isExpandable_20 : decode cX35_isExpandable 20 = .ok (.ireturn, 1) := dc_172 (by decide +kernel)
theorem dX35_isExpandable_21 : decode cX35_isExpandable 21 = .ok (.aload_n 0, 1) := dc_42 (by decide +kernel)
theorem dX35_isExpandable_22 : decode cX35_isExpandable 22 = .ok (.iload_n 1, 1) := dc_27 (by decide +kernel)
theorem dX35_isExpandable_23 : decode cX35_isExpandable 23 = .ok (.invokevirtual 474, 3) := dc_182 (a := 1) (b := 218) (n := 474) (by decide +kernel)
theorem dX35_isExpandable_26 : decode cX35_isExpandable 26 = .ok (.istore_n 2, 1) := dc_61 (by decide +kernel)
theorem dX35_isExpandable_27 : decode cX35_isExpandable 27 = .ok (.iload_n 2, 1) := dc_28 (by decide +kernel)
theorem dX35_isExpandable_28 : decode cX35_isExpandable 28 = .ok (.sipush 1000, 3) := dc_17 (a := 3) (b := 232) (v := 1000) (by decide +kernel)
theorem dX35_isExpandable_31 : decode cX35_isExpandable 31 = .ok (.if_icmp .lt 10, 3) := dc_161 (a := 0) (b := 10) (v := 10) (by decide +kernel)
theorem dX35_isExpandable_34 : decode cX35_isExpandable 34 = .ok (.iload_n 2, 1) := dc_28 (by decide +kernel)
theorem dX35_isExpandable_35 : decode cX35_isExpandable 35 = .ok (.sipush 1021, 3) := dc_17 (a := 3) (b := 253) (v := 1021) (by decide +kernel)
theorem dX35_isExpandable_38 : decode cX35_isExpandable 38 = .ok (.if_icmp .le 16, 3) := dc_164 (a := 0) (b := 16) (v := 16) (by decide +kernel)
theorem dX35_isExpandable_41 : decode cX35_isExpandable 41 = .ok (.iload_n 2, 1) := dc_28 (by decide +kernel)
theorem dX35_isExpandable_42 : decode cX35_isExpandable 42 = .ok (.ldc 14, 2) := dc_18 (a := 14) (by decide +kernel)
theorem dX35_isExpandable_44 : decode cX35_isExpandable 44 = .ok (.if_icmp .lt 14, 3) := dc_161 (a := 0) (b := 14) (v := 14) (by decide +kernel)
theorem dX35_isExpandable_47 : decode cX35_isExpandable 47 = .ok (.iload_n 2, 1) := dc_28 (by decide +kernel)
theorem dX35_isExpandable_48 : decode cX35_isExpandable 48 = .ok (.ldc_w 470, 3) := dc_19 (a := 1) (b := 214) (n := 470) (by decide +kernel)
theorem dX35_isExpandable_51 : decode cX35_isExpandable 51 = .ok (.if_icmp .ge 7, 3) := dc_162 (a := 0) (b := 7) (v := 7) (by decide +kernel)
theorem dX35_isExpandable_54 : decode cX35_isExpandable 54 = .ok (.iconst 1, 1) := dc_4 (by decide +kernel)
theorem dX35_isExpandable_55 : decode cX35_isExpandable 55 = .ok (.goto 4, 3) := dc_167 (a := 0) (b := 4) (v := 4) (by decide +kernel)
theorem dX35_isExpandable_58 : decode cX35_isExpandable 58 = .ok (.iconst 0, 1) := dc_3 (by decide +kernel)
theorem dX35_isExpandable_59 : decode cX35_isExpandable 59 = .ok (.ireturn, 1) := dc_172 (by decide +kernel)
def fX35_isExpandable_b19  (h : eH) : Option (Int32 × eH) :=
  some ((0 : Int32), h)
theorem pX35_isExpandable_b19 {w : eW} {d : Nat} (hd : 3 ≤ d + 1)  {h : eH} {q} (hf : fX35_isExpandable_b19  h = some q) : wp w (d + 1) YX35_isExpandable 19 [none, none, none] [] h (e_is (e_rn c_I q)) := by
  unfold fX35_isExpandable_b19 at hf
  refine w_iconst dX35_isExpandable_19 (v := 0) (by decide) ?_
  cases hf
  exact w_iret dX35_isExpandable_20 rfl rfl rfl
def fX35_isExpandable_b59 (s0 : Int32) (h : eH) : Option (Int32 × eH) :=
  z_r s0 (s0, h)
theorem pX35_isExpandable_b59 {w : eW} {d : Nat} (hd : 3 ≤ d + 1) {s0 : Int32} {h : eH} {q} (hf : fX35_isExpandable_b59 s0 h = some q) : wp w (d + 1) YX35_isExpandable 59 [none, none, none] [.int s0] h (e_is (e_rn c_I q)) := by
  unfold fX35_isExpandable_b59 at hf
  obtain ⟨b1, rfl⟩ := z_r_some hf
  exact w_iret dX35_isExpandable_59 rfl b1 rfl
def fX35_isExpandable_b54  (h : eH) : Option (Int32 × eH) :=
  fX35_isExpandable_b59 (1 : Int32) h
theorem pX35_isExpandable_b54 {w : eW} {d : Nat} (hd : 3 ≤ d + 1)  {h : eH} {q} (hf : fX35_isExpandable_b54  h = some q) : wp w (d + 1) YX35_isExpandable 54 [none, none, none] [] h (e_is (e_rn c_I q)) := by
  unfold fX35_isExpandable_b54 at hf
  refine w_iconst dX35_isExpandable_54 (v := 1) (by decide) ?_
  refine w_goto 59 dX35_isExpandable_55 (by decide) ?_
  exact (pX35_isExpandable_b59 hd hf).to trivial
def fX35_isExpandable_b58  (h : eH) : Option (Int32 × eH) :=
  fX35_isExpandable_b59 (0 : Int32) h
theorem pX35_isExpandable_b58 {w : eW} {d : Nat} (hd : 3 ≤ d + 1)  {h : eH} {q} (hf : fX35_isExpandable_b58  h = some q) : wp w (d + 1) YX35_isExpandable 58 [none, none, none] [] h (e_is (e_rn c_I q)) := by
  unfold fX35_isExpandable_b58 at hf
  refine w_iconst dX35_isExpandable_58 (v := 0) (by decide) ?_
  exact (pX35_isExpandable_b59 hd hf).to trivial
def fX35_isExpandable_b41 (l2 : Int32) (h : eH) : Option (Int32 × eH) :=
  if l2 < (100000 : Int32) then
    fX35_isExpandable_b58 h
  else
    if (2000000 : Int32) ≤ l2 then
      fX35_isExpandable_b58 h
    else
      fX35_isExpandable_b54 h
theorem pX35_isExpandable_b41 {w : eW} {d : Nat} (hd : 3 ≤ d + 1) {l2 : Int32} {h : eH} {q} (hf : fX35_isExpandable_b41 l2 h = some q) : wp w (d + 1) YX35_isExpandable 41 [none, none, some (.int l2)] [] h (e_is (e_rn c_I q)) := by
  unfold fX35_isExpandable_b41 at hf
  refine w_iload_n dX35_isExpandable_41 rfl rfl ?_
  refine w_ldc dX35_isExpandable_42 q4120 ?_
  refine w_icmp_lt 58 dX35_isExpandable_44 (by decide) (fun c1 => ?_) (fun c1 => ?_)
  · replace hf := (if_pos (show l2 < (100000 : Int32) from c1)).symm.trans hf
    exact (pX35_isExpandable_b58 hd hf).to trivial
  · replace hf := (if_neg (show ¬ (l2 < (100000 : Int32)) from c1)).symm.trans hf
    refine w_iload_n dX35_isExpandable_47 rfl rfl ?_
    refine w_ldc_w dX35_isExpandable_48 q5134 ?_
    refine w_icmp_ge 58 dX35_isExpandable_51 (by decide) (fun c2 => ?_) (fun c2 => ?_)
    · replace hf := (if_pos (show (2000000 : Int32) ≤ l2 from c2)).symm.trans hf
      exact (pX35_isExpandable_b58 hd hf).to trivial
    · replace hf := (if_neg (show ¬ ((2000000 : Int32) ≤ l2) from c2)).symm.trans hf
      exact (pX35_isExpandable_b54 hd hf).to trivial
def fX35_isExpandable (this : Nat) (p0 : Int32) (h : eH) : Option (Int32 × eH) :=
  if p0 = (-1 : Int32) then
    fX35_isExpandable_b19 h
  else
    (fX35_isMarked p0 h).bind fun q2 =>
    if ¬ q2.1 = 0 then
      fX35_isExpandable_b19 q2.2
    else
      (fX35_isCharacter p0 q2.2).bind fun q4 =>
      if q4.1 = 0 then
        (k_ok 34 q4.2 this).bind fun _ =>
        (fX35_meaning this p0 q4.2).bind fun q7 =>
        if q7.1 < (1000 : Int32) then
          fX35_isExpandable_b41 q7.1 q7.2
        else
          if q7.1 ≤ (1021 : Int32) then
            fX35_isExpandable_b54 q7.2
          else
            fX35_isExpandable_b41 q7.1 q7.2
      else
        fX35_isExpandable_b19 q4.2
theorem pX35_isExpandable {w : eW} {d : Nat} (hd : 3 ≤ d) {this : Nat} {p0 : Int32} {h : eH} {q} (hf : fX35_isExpandable this p0 h = some q) : wm w d YX35_isExpandable [.ref this, .int p0] h (e_is (e_rn c_I q)) := by
  obtain ⟨d, rfl⟩ : ∃ e, d = e + 1 := ⟨d - 1, by omega⟩
  show wp w (d + 1) YX35_isExpandable 0 [some (.ref this), some (.int p0), none] [] h _
  unfold fX35_isExpandable at hf
  refine w_iload_n dX35_isExpandable_0 rfl rfl ?_
  refine w_iconst dX35_isExpandable_1 (v := -1) (by decide) ?_
  refine w_icmp_eq 19 dX35_isExpandable_2 (by decide) (fun c1 => ?_) (fun c1 => ?_)
  · replace hf := (if_pos (show p0 = (-1 : Int32) from c1)).symm.trans hf
    exact (pX35_isExpandable_b19 hd hf).to trivial
  · replace hf := (if_neg (show ¬ (p0 = (-1 : Int32)) from c1)).symm.trans hf
    refine w_iload_n dX35_isExpandable_5 rfl rfl ?_
    refine x_cnI hf (e_stS (Yc := YX35_isMarked) (av := [.int p0]) (st := []) dX35_isExpandable_6 q5123 mX35_isMarked) mX35_isMarked.2.2.1 mX35_isMarked.2.2.2.2.1 (Nat.le_of_ble_eq_true rfl) (Nat.le_of_ble_eq_true rfl) (fun q hq => pX35_isMarked (by omega) hq) (fun q2 hf => ?_)
    refine w_if_ne 19 dX35_isExpandable_9 (by decide) (fun c3 => ?_) (fun c3 => ?_)
    · replace hf := (if_pos (show ¬ q2.1 = 0 from c3)).symm.trans hf
      exact (pX35_isExpandable_b19 hd hf).to trivial
    · replace hf := (if_neg (show ¬ (¬ q2.1 = 0) from (fun z => z c3))).symm.trans hf
      refine w_iload_n dX35_isExpandable_12 rfl rfl ?_
      refine x_cnI hf (e_stS (Yc := YX35_isCharacter) (av := [.int p0]) (st := []) dX35_isExpandable_13 q5127 mX35_isCharacter) mX35_isCharacter.2.2.1 mX35_isCharacter.2.2.2.2.1 (Nat.le_of_ble_eq_true rfl) (Nat.le_of_ble_eq_true rfl) (fun q hq => pX35_isCharacter (by omega) hq) (fun q4 hf => ?_)
      refine w_if_eq 21 dX35_isExpandable_16 (by decide) (fun c5 => ?_) (fun c5 => ?_)
      · replace hf := (if_pos (show q4.1 = 0 from c5)).symm.trans hf
        refine w_aload_n dX35_isExpandable_21 rfl rfl ?_
        refine w_iload_n dX35_isExpandable_22 rfl rfl ?_
        obtain ⟨_, b6, hf⟩ := Option.bind_eq_some_iff.mp hf
        refine x_cnI hf (e_stV (Yc := YX35_meaning) (ci := 34) (av := [.int p0]) (st := []) dX35_isExpandable_23 q5130 mX35_meaning rfl (k_ok_some b6).1 (k_ok_some b6).2) mX35_meaning.2.2.1 mX35_meaning.2.2.2.2.1 (Nat.le_of_ble_eq_true rfl) (Nat.le_of_ble_eq_true rfl) (fun q hq => pX35_meaning (by omega) hq) (fun q7 hf => ?_)
        refine w_istore_n dX35_isExpandable_26 rfl (by decide) (ls' := [some (.ref this), some (.int p0), some (.int q7.1)]) rfl ?_
        refine w_iload_n dX35_isExpandable_27 rfl rfl ?_
        refine w_sipush dX35_isExpandable_28 (v := 1000) (by decide) ?_
        refine w_icmp_lt 41 dX35_isExpandable_31 (by decide) (fun c8 => ?_) (fun c8 => ?_)
        · replace hf := (if_pos (show q7.1 < (1000 : Int32) from c8)).symm.trans hf
          exact (pX35_isExpandable_b41 hd hf).to ⟨rfl, trivial⟩
        · replace hf := (if_neg (show ¬ (q7.1 < (1000 : Int32)) from c8)).symm.trans hf
          refine w_iload_n dX35_isExpandable_34 rfl rfl ?_
          refine w_sipush dX35_isExpandable_35 (v := 1021) (by decide) ?_
          refine w_icmp_le 54 dX35_isExpandable_38 (by decide) (fun c9 => ?_) (fun c9 => ?_)
          · replace hf := (if_pos (show q7.1 ≤ (1021 : Int32) from c9)).symm.trans hf
            exact (pX35_isExpandable_b54 hd hf).to trivial
          · replace hf := (if_neg (show ¬ (q7.1 ≤ (1021 : Int32)) from c9)).symm.trans hf
            exact (pX35_isExpandable_b41 hd hf).to ⟨rfl, trivial⟩
      · replace hf := (if_neg (show ¬ (q4.1 = 0) from c5)).symm.trans hf
        exact (pX35_isExpandable_b19 hd hf).to trivial
abbrev cX35_expand : ByteArray := prog_37_method_42_code
def yX35_expand : MethodName := ⟨RX35, "expand", "(I)V"⟩
def YX35_expand : eY := (yX35_expand, cX35_expand, 3, none, [])
theorem mX35_expand : e_mv YX35_expand RX35 1 := ⟨q5144, qs249, q5145, by decide, by decide +kernel, (e_sig (by decide +kernel))⟩
theorem dX35_expand_0 : decode cX35_expand 0 = .ok (.aload_n 0, 1) := dc_42 (by decide +kernel)
theorem dX35_expand_1 : decode cX35_expand 1 = .ok (.invokevirtual 497, 3) := dc_182 (a := 1) (b := 241) (n := 497) (by decide +kernel)
theorem dX35_expand_4 : decode cX35_expand 4 = .ok (.aload_n 0, 1) := dc_42 (by decide +kernel)
theorem dX35_expand_5 : decode cX35_expand 5 = .ok (.getfield 353, 3) := dc_180 (a := 1) (b := 97) (n := 353) (by decide +kernel)
theorem dX35_expand_8 : decode cX35_expand 8 = .ok (.bipush 40, 2) := dc_16 (a := 40) (v := 40) (by decide +kernel)
theorem dX35_expand_10 : decode cX35_expand 10 = .ok (.if_icmp .ne 8, 3) := dc_160 (a := 0) (b := 8) (v := 8) (by decide +kernel)
theorem dX35_expand_13 : decode cX35_expand 13 = .ok (.aload_n 0, 1) := dc_42 (by decide +kernel)
theorem dX35_expand_14 : decode cX35_expand 14 = .ok (.iconst 3, 1) := dc_6 (by decide +kernel)
theorem dX35_expand_15 : decode cX35_expand 15 = .ok (.invokevirtual 428, 3) := dc_182 (a := 1) (b := 172) (n := 428) (by decide +kernel)
theorem dX35_expand_18 : decode cX35_expand 18 = .ok (.aload_n 0, 1) := dc_42 (by decide +kernel)
theorem dX35_expand_19 : decode cX35_expand 19 = .ok (.getfield 321, 3) := dc_180 (a := 1) (b := 65) (n := 321) (by decide +kernel)
theorem dX35_expand_22 : decode cX35_expand 22 = .ok (.ifCond .le 4, 3) := dc_158 (a := 0) (b := 4) (v := 4) (by decide +kernel)
theorem dX35_expand_25 : decode cX35_expand 25 = .ok (.return_, 1) := dc_177 (by decide +kernel)
theorem dX35_expand_26 : decode cX35_expand 26 = .ok (.aload_n 0, 1) := dc_42 (by decide +kernel)
theorem dX35_expand_27 : decode cX35_expand 27 = .ok (.dup, 1) := dc_89 (by decide +kernel)
theorem dX35_expand_28 : decode cX35_expand 28 = .ok (.getfield 353, 3) := dc_180 (a := 1) (b := 97) (n := 353) (by decide +kernel)
theorem dX35_expand_31 : decode cX35_expand 31 = .ok (.iconst 1, 1) := dc_4 (by decide +kernel)
theorem dX35_expand_32 : decode cX35_expand 32 = .ok (.iadd, 1) := dc_96 (by decide +kernel)
theorem dX35_expand_33 : decode cX35_expand 33 = .ok (.putfield 353, 3) := dc_181 (a := 1) (b := 97) (n := 353) (by decide +kernel)
theorem dX35_expand_36 : decode cX35_expand 36 = .ok (.aload_n 0, 1) := dc_42 (by decide +kernel)
theorem dX35_expand_37 : decode cX35_expand 37 = .ok (.iload_n 1, 1) := dc_27 (by decide +kernel)
theorem dX35_expand_38 : decode cX35_expand 38 = .ok (.invokevirtual 474, 3) := dc_182 (a := 1) (b := 218) (n := 474) (by decide +kernel)
theorem dX35_expand_41 : decode cX35_expand 41 = .ok (.istore_n 2, 1) := dc_61 (by decide +kernel)
theorem dX35_expand_42 : decode cX35_expand 42 = .ok (.iload_n 2, 1) := dc_28 (by decide +kernel)
theorem dX35_expand_43 : decode cX35_expand 43 = .ok (.ldc 14, 2) := dc_18 (a := 14) (by decide +kernel)
theorem dX35_expand_45 : decode cX35_expand 45 = .ok (.if_icmp .lt 14, 3) := dc_161 (a := 0) (b := 14) (v := 14) (by decide +kernel)
theorem dX35_expand_48 : decode cX35_expand 48 = .ok (.aload_n 0, 1) := dc_42 (by decide +kernel)
theorem dX35_expand_49 : decode cX35_expand 49 = .ok (.iload_n 2, 1) := dc_28 (by decide +kernel)
theorem dX35_expand_50 : decode cX35_expand 50 = .ok (.ldc 14, 2) := dc_18 (a := 14) (by decide +kernel)
theorem dX35_expand_52 : decode cX35_expand 52 = .ok (.isub, 1) := dc_100 (by decide +kernel)
theorem dX35_expand_53 : decode cX35_expand 53 = .ok (.invokevirtual 500, 3) := dc_182 (a := 1) (b := 244) (n := 500) (by decide +kernel)
theorem dX35_expand_56 : decode cX35_expand 56 = .ok (.goto 13, 3) := dc_167 (a := 0) (b := 13) (v := 13) (by decide +kernel)
theorem dX35_expand_59 : decode cX35_expand 59 = .ok (.aload_n 0, 1) := dc_42 (by decide +kernel)
theorem dX35_expand_60 : decode cX35_expand 60 = .ok (.iload_n 1, 1) := dc_27 (by decide +kernel)
theorem dX35_expand_61 : decode cX35_expand 61 = .ok (.iload_n 2, 1) := dc_28 (by decide +kernel)
theorem dX35_expand_62 : decode cX35_expand 62 = .ok (.sipush 1000, 3) := dc_17 (a := 3) (b := 232) (v := 1000) (by decide +kernel)
theorem dX35_expand_65 : decode cX35_expand 65 = .ok (.isub, 1) := dc_100 (by decide +kernel)
theorem dX35_expand_66 : decode cX35_expand 66 = .ok (.invokevirtual 503, 3) := dc_182 (a := 1) (b := 247) (n := 503) (by decide +kernel)
theorem dX35_expand_69 : decode cX35_expand 69 = .ok (.aload_n 0, 1) := dc_42 (by decide +kernel)
theorem dX35_expand_70 : decode cX35_expand 70 = .ok (.dup, 1) := dc_89 (by decide +kernel)
theorem dX35_expand_71 : decode cX35_expand 71 = .ok (.getfield 353, 3) := dc_180 (a := 1) (b := 97) (n := 353) (by decide +kernel)
theorem dX35_expand_74 : decode cX35_expand 74 = .ok (.iconst 1, 1) := dc_4 (by decide +kernel)
theorem dX35_expand_75 : decode cX35_expand 75 = .ok (.isub, 1) := dc_100 (by decide +kernel)
theorem dX35_expand_76 : decode cX35_expand 76 = .ok (.putfield 353, 3) := dc_181 (a := 1) (b := 97) (n := 353) (by decide +kernel)
theorem dX35_expand_79 : decode cX35_expand 79 = .ok (.aload_n 0, 1) := dc_42 (by decide +kernel)
theorem dX35_expand_80 : decode cX35_expand 80 = .ok (.getfield 347, 3) := dc_180 (a := 1) (b := 91) (n := 347) (by decide +kernel)
theorem dX35_expand_83 : decode cX35_expand 83 = .ok (.sipush 10000, 3) := dc_17 (a := 39) (b := 16) (v := 10000) (by decide +kernel)
theorem dX35_expand_86 : decode cX35_expand 86 = .ok (.if_icmp .le 8, 3) := dc_164 (a := 0) (b := 8) (v := 8) (by decide +kernel)
theorem dX35_expand_89 : decode cX35_expand 89 = .ok (.aload_n 0, 1) := dc_42 (by decide +kernel)
theorem dX35_expand_90 : decode cX35_expand 90 = .ok (.iconst 2, 1) := dc_5 (by decide +kernel)
theorem dX35_expand_91 : decode cX35_expand 91 = .ok (.invokevirtual 428, 3) := dc_182 (a := 1) (b := 172) (n := 428) (by decide +kernel)
theorem dX35_expand_94 : decode cX35_expand 94 = .ok (.return_, 1) := dc_177 (by decide +kernel)
abbrev cX35_getExpanded : ByteArray := prog_37_method_38_code
def yX35_getExpanded : MethodName := ⟨RX35, "getExpanded", "()I"⟩
def YX35_getExpanded : eY := (yX35_getExpanded, cX35_getExpanded, 2, (Option.some FieldType.int), [])
theorem mX35_getExpanded : e_mv YX35_getExpanded RX35 0 := ⟨q5079, qs236, q5080, by decide, by decide +kernel, (e_sig (by decide +kernel))⟩
theorem dX35_getExpanded_0 : decode cX35_getExpanded 0 = .ok (.aload_n 0, 1) := dc_42 (by decide +kernel)
theorem dX35_getExpanded_1 : decode cX35_getExpanded 1 = .ok (.invokevirtual 456, 3) := dc_182 (a := 1) (b := 200) (n := 456) (by decide +kernel)
theorem dX35_getExpanded_4 : decode cX35_getExpanded 4 = .ok (.istore_n 1, 1) := dc_60 (by decide +kernel)
theorem dX35_getExpanded_5 : decode cX35_getExpanded 5 = .ok (.aload_n 0, 1) := dc_42 (by decide +kernel)
theorem dX35_getExpanded_6 : decode cX35_getExpanded 6 = .ok (.iload_n 1, 1) := dc_27 (by decide +kernel)
theorem dX35_getExpanded_7 : decode cX35_getExpanded 7 = .ok (.invokevirtual 481, 3) := dc_182 (a := 1) (b := 225) (n := 481) (by decide +kernel)
theorem dX35_getExpanded_10 : decode cX35_getExpanded 10 = .ok (.ifCond .eq 16, 3) := dc_153 (a := 0) (b := 16) (v := 16) (by decide +kernel)
theorem dX35_getExpanded_13 : decode cX35_getExpanded 13 = .ok (.aload_n 0, 1) := dc_42 (by decide +kernel)
theorem dX35_getExpanded_14 : decode cX35_getExpanded 14 = .ok (.iload_n 1, 1) := dc_27 (by decide +kernel)
theorem dX35_getExpanded_15 : decode cX35_getExpanded 15 = .ok (.invokevirtual 484, 3) := dc_182 (a := 1) (b := 228) (n := 484) (by decide +kernel)
theorem dX35_getExpanded_18 : decode cX35_getExpanded 18 = .ok (.aload_n 0, 1) := dc_42 (by decide +kernel)
theorem dX35_getExpanded_19 : decode cX35_getExpanded 19 = .ok (.invokevirtual 456, 3) := dc_182 (a := 1) (b := 200) (n := 456) (by decide +kernel)
theorem dX35_getExpanded_22 : decode cX35_getExpanded 22 = .ok (.istore_n 1, 1) := dc_60 (by decide +kernel)
theorem dX35_getExpanded_23 : decode cX35_getExpanded 23 = .ok (.goto (-18), 3) := dc_167 (a := 255) (b := 238) (v := -18) (by decide +kernel)
theorem dX35_getExpanded_26 : decode cX35_getExpanded 26 = .ok (.iload_n 1, 1) := dc_27 (by decide +kernel)
theorem dX35_getExpanded_27 : decode cX35_getExpanded 27 = .ok (.ireturn, 1) := dc_172 (by decide +kernel)
def fX35_getExpanded_b5 (N : Nat) (sE : Nat → Int32 → eH → Option (Unit × eH)) : Nat → Nat → Int32 → eH → Option (Int32 × eH)
  | 0, _, _, _ => none
  | n + 1, l0, l1, h =>
    (k_ok 34 h l0).bind fun _ =>
    (fX35_isExpandable l0 l1 h).bind fun q2 =>
    if q2.1 = 0 then
      some (l1, q2.2)
    else
      (k_ok 34 q2.2 l0).bind fun _ =>
      (sE l0 l1 q2.2).bind fun q5 =>
      (k_ok 34 q5.2 l0).bind fun _ =>
      (fX35_get N l0 q5.2).bind fun q7 =>
      fX35_getExpanded_b5 N sE n l0 q7.1 q7.2
theorem pX35_getExpanded_b5 {w : eW} {d : Nat} {dr : Nat} (hd : dr + 5 ≤ d + 1) (hdr : 12 ≤ dr) {N : Nat} {sE : Nat → Int32 → eH → Option (Unit × eH)} (hsE : ∀ a t0 h q, sE a t0 h = some q → wm w dr YX35_expand [.ref a, .int t0] h (e_is (e_rn c_V q))) : ∀ (n : Nat) l0 l1 h q, fX35_getExpanded_b5 N sE n l0 l1 h = some q → wp w (d + 1) YX35_getExpanded 5 [some (.ref l0), some (.int l1)] [] h (e_is (e_rn c_I q)) := by
  intro n
  induction n with
  | zero => intro l0 l1 h q hf; simp [fX35_getExpanded_b5] at hf
  | succ n ih =>
    intro l0 l1 h q hf
    rw [fX35_getExpanded_b5] at hf
    refine w_aload_n dX35_getExpanded_5 rfl rfl ?_
    refine w_iload_n dX35_getExpanded_6 rfl rfl ?_
    obtain ⟨_, b1, hf⟩ := Option.bind_eq_some_iff.mp hf
    refine x_cnI hf (e_stV (Yc := YX35_isExpandable) (ci := 34) (av := [.int l1]) (st := []) dX35_getExpanded_7 q5119 mX35_isExpandable rfl (k_ok_some b1).1 (k_ok_some b1).2) mX35_isExpandable.2.2.1 mX35_isExpandable.2.2.2.2.1 (Nat.le_of_ble_eq_true rfl) (Nat.le_of_ble_eq_true rfl) (fun q hq => pX35_isExpandable (by omega) hq) (fun q2 hf => ?_)
    refine w_if_eq 26 dX35_getExpanded_10 (by decide) (fun c3 => ?_) (fun c3 => ?_)
    · replace hf := (if_pos (show q2.1 = 0 from c3)).symm.trans hf
      refine w_iload_n dX35_getExpanded_26 rfl rfl ?_
      cases hf
      exact w_iret dX35_getExpanded_27 rfl rfl rfl
    · replace hf := (if_neg (show ¬ (q2.1 = 0) from c3)).symm.trans hf
      refine w_aload_n dX35_getExpanded_13 rfl rfl ?_
      refine w_iload_n dX35_getExpanded_14 rfl rfl ?_
      obtain ⟨_, b4, hf⟩ := Option.bind_eq_some_iff.mp hf
      refine x_cnV hf (e_stV (Yc := YX35_expand) (ci := 34) (av := [.int l1]) (st := []) dX35_getExpanded_15 q5142 mX35_expand rfl (k_ok_some b4).1 (k_ok_some b4).2) mX35_expand.2.2.1 mX35_expand.2.2.2.2.1 (Nat.le_of_ble_eq_true rfl) (Nat.le_of_ble_eq_true rfl) (fun q hq => (hsE _ _ _ _ hq).up (by omega)) (fun q5 hf => ?_)
      refine w_aload_n dX35_getExpanded_18 rfl rfl ?_
      obtain ⟨_, b6, hf⟩ := Option.bind_eq_some_iff.mp hf
      refine x_cnI hf (e_stV (Yc := YX35_get) (ci := 34) (av := []) (st := []) dX35_getExpanded_19 q5081 mX35_get rfl (k_ok_some b6).1 (k_ok_some b6).2) mX35_get.2.2.1 mX35_get.2.2.2.2.1 (Nat.le_of_ble_eq_true rfl) (Nat.le_of_ble_eq_true rfl) (fun q hq => pX35_get (by omega) hq) (fun q7 hf => ?_)
      refine w_istore_n dX35_getExpanded_22 rfl (by decide) (ls' := [some (.ref l0), some (.int q7.1)]) rfl ?_
      refine w_goto 5 dX35_getExpanded_23 (by decide) ?_
      exact (ih _ _ _ _ hf).to ⟨rfl, rfl, trivial⟩
def fX35_getExpanded (N : Nat) (sE : Nat → Int32 → eH → Option (Unit × eH)) (this : Nat) (h : eH) : Option (Int32 × eH) :=
  (k_ok 34 h this).bind fun _ =>
  (fX35_get N this h).bind fun q2 =>
  fX35_getExpanded_b5 N sE N this q2.1 q2.2
theorem pX35_getExpanded {w : eW} {d : Nat} {dr : Nat} (hd : dr + 5 ≤ d) (hdr : 12 ≤ dr) {N : Nat} {sE : Nat → Int32 → eH → Option (Unit × eH)} (hsE : ∀ a t0 h q, sE a t0 h = some q → wm w dr YX35_expand [.ref a, .int t0] h (e_is (e_rn c_V q))) {this : Nat} {h : eH} {q} (hf : fX35_getExpanded N sE this h = some q) : wm w d YX35_getExpanded [.ref this] h (e_is (e_rn c_I q)) := by
  obtain ⟨d, rfl⟩ : ∃ e, d = e + 1 := ⟨d - 1, by omega⟩
  show wp w (d + 1) YX35_getExpanded 0 [some (.ref this), none] [] h _
  unfold fX35_getExpanded at hf
  refine w_aload_n dX35_getExpanded_0 rfl rfl ?_
  obtain ⟨_, b1, hf⟩ := Option.bind_eq_some_iff.mp hf
  refine x_cnI hf (e_stV (Yc := YX35_get) (ci := 34) (av := []) (st := []) dX35_getExpanded_1 q5081 mX35_get rfl (k_ok_some b1).1 (k_ok_some b1).2) mX35_get.2.2.1 mX35_get.2.2.2.2.1 (Nat.le_of_ble_eq_true rfl) (Nat.le_of_ble_eq_true rfl) (fun q hq => pX35_get (by omega) hq) (fun q2 hf => ?_)
  refine w_istore_n dX35_getExpanded_4 rfl (by decide) (ls' := [some (.ref this), some (.int q2.1)]) rfl ?_
  exact (pX35_getExpanded_b5 hd hdr hsE N _ _ _ _ hf).to ⟨rfl, rfl, trivial⟩
abbrev cX35_needExpanded : ByteArray := prog_37_method_39_code
def yX35_needExpanded : MethodName := ⟨RX35, "needExpanded", "()I"⟩
def YX35_needExpanded : eY := (yX35_needExpanded, cX35_needExpanded, 2, (Option.some FieldType.int), [])
theorem mX35_needExpanded : e_mv YX35_needExpanded RX35 0 := ⟨q5195, qs261, q5196, by decide, by decide +kernel, (e_sig (by decide +kernel))⟩
theorem dX35_needExpanded_0 : decode cX35_needExpanded 0 = .ok (.aload_n 0, 1) := dc_42 (by decide +kernel)
theorem dX35_needExpanded_1 : decode cX35_needExpanded 1 = .ok (.invokevirtual 487, 3) := dc_182 (a := 1) (b := 231) (n := 487) (by decide +kernel)
theorem dX35_needExpanded_4 : decode cX35_needExpanded 4 = .ok (.istore_n 1, 1) := dc_60 (by decide +kernel)
theorem dX35_needExpanded_5 : decode cX35_needExpanded 5 = .ok (.iload_n 1, 1) := dc_27 (by decide +kernel)
theorem dX35_needExpanded_6 : decode cX35_needExpanded 6 = .ok (.iconst (-1), 1) := dc_2 (by decide +kernel)
theorem dX35_needExpanded_7 : decode cX35_needExpanded 7 = .ok (.if_icmp .ne 9, 3) := dc_160 (a := 0) (b := 9) (v := 9) (by decide +kernel)
theorem dX35_needExpanded_10 : decode cX35_needExpanded 10 = .ok (.aload_n 0, 1) := dc_42 (by decide +kernel)
theorem dX35_needExpanded_11 : decode cX35_needExpanded 11 = .ok (.bipush 9, 2) := dc_16 (a := 9) (v := 9) (by decide +kernel)
theorem dX35_needExpanded_13 : decode cX35_needExpanded 13 = .ok (.invokevirtual 428, 3) := dc_182 (a := 1) (b := 172) (n := 428) (by decide +kernel)
theorem dX35_needExpanded_16 : decode cX35_needExpanded 16 = .ok (.iload_n 1, 1) := dc_27 (by decide +kernel)
theorem dX35_needExpanded_17 : decode cX35_needExpanded 17 = .ok (.ireturn, 1) := dc_172 (by decide +kernel)
def fX35_needExpanded_b16 (N : Nat) (sE : Nat → Int32 → eH → Option (Unit × eH)) (l1 : Int32) (h : eH) : Option (Int32 × eH) :=
  some (l1, h)
theorem pX35_needExpanded_b16 {w : eW} {d : Nat} {dr : Nat} (hd : dr + 6 ≤ d + 1) (hdr : 12 ≤ dr) {N : Nat} {sE : Nat → Int32 → eH → Option (Unit × eH)} (hsE : ∀ a t0 h q, sE a t0 h = some q → wm w dr YX35_expand [.ref a, .int t0] h (e_is (e_rn c_V q))) {l1 : Int32} {h : eH} {q} (hf : fX35_needExpanded_b16 N sE l1 h = some q) : wp w (d + 1) YX35_needExpanded 16 [none, some (.int l1)] [] h (e_is (e_rn c_I q)) := by
  unfold fX35_needExpanded_b16 at hf
  refine w_iload_n dX35_needExpanded_16 rfl rfl ?_
  cases hf
  exact w_iret dX35_needExpanded_17 rfl rfl rfl
def fX35_needExpanded (N : Nat) (sE : Nat → Int32 → eH → Option (Unit × eH)) (this : Nat) (h : eH) : Option (Int32 × eH) :=
  (k_ok 34 h this).bind fun _ =>
  (fX35_getExpanded N sE this h).bind fun q2 =>
  if ¬ q2.1 = (-1 : Int32) then
    fX35_needExpanded_b16 N sE q2.1 q2.2
  else
    (k_ok 34 q2.2 this).bind fun _ =>
    (fX35_fail this (9 : Int32) q2.2).bind fun q5 =>
    fX35_needExpanded_b16 N sE q2.1 q5.2
theorem pX35_needExpanded {w : eW} {d : Nat} {dr : Nat} (hd : dr + 6 ≤ d) (hdr : 12 ≤ dr) {N : Nat} {sE : Nat → Int32 → eH → Option (Unit × eH)} (hsE : ∀ a t0 h q, sE a t0 h = some q → wm w dr YX35_expand [.ref a, .int t0] h (e_is (e_rn c_V q))) {this : Nat} {h : eH} {q} (hf : fX35_needExpanded N sE this h = some q) : wm w d YX35_needExpanded [.ref this] h (e_is (e_rn c_I q)) := by
  obtain ⟨d, rfl⟩ : ∃ e, d = e + 1 := ⟨d - 1, by omega⟩
  show wp w (d + 1) YX35_needExpanded 0 [some (.ref this), none] [] h _
  unfold fX35_needExpanded at hf
  refine w_aload_n dX35_needExpanded_0 rfl rfl ?_
  obtain ⟨_, b1, hf⟩ := Option.bind_eq_some_iff.mp hf
  refine x_cnI hf (e_stV (Yc := YX35_getExpanded) (ci := 34) (av := []) (st := []) dX35_needExpanded_1 q5077 mX35_getExpanded rfl (k_ok_some b1).1 (k_ok_some b1).2) mX35_getExpanded.2.2.1 mX35_getExpanded.2.2.2.2.1 (Nat.le_of_ble_eq_true rfl) (Nat.le_of_ble_eq_true rfl) (fun q hq => pX35_getExpanded (by omega) hdr hsE hq) (fun q2 hf => ?_)
  refine w_istore_n dX35_needExpanded_4 rfl (by decide) (ls' := [some (.ref this), some (.int q2.1)]) rfl ?_
  refine w_iload_n dX35_needExpanded_5 rfl rfl ?_
  refine w_iconst dX35_needExpanded_6 (v := -1) (by decide) ?_
  refine w_icmp_ne 16 dX35_needExpanded_7 (by decide) (fun c3 => ?_) (fun c3 => ?_)
  · replace hf := (if_pos (show ¬ q2.1 = (-1 : Int32) from c3)).symm.trans hf
    exact (pX35_needExpanded_b16 hd hdr hsE hf).to ⟨rfl, trivial⟩
  · replace hf := (if_neg (show ¬ (¬ q2.1 = (-1 : Int32)) from (fun z => z c3))).symm.trans hf
    refine w_aload_n dX35_needExpanded_10 rfl rfl ?_
    refine w_bipush dX35_needExpanded_11 (v := 9) (by decide) ?_
    obtain ⟨_, b4, hf⟩ := Option.bind_eq_some_iff.mp hf
    refine x_cnV hf (e_stV (Yc := YX35_fail) (ci := 34) (av := [.int (9 : Int32)]) (st := []) dX35_needExpanded_13 q5109 mX35_fail rfl (k_ok_some b4).1 (k_ok_some b4).2) mX35_fail.2.2.1 mX35_fail.2.2.2.2.1 (Nat.le_of_ble_eq_true rfl) (Nat.le_of_ble_eq_true rfl) (fun q hq => pX35_fail (by omega) hq) (fun q5 hf => ?_)
    exact (pX35_needExpanded_b16 hd hdr hsE hf).to ⟨rfl, trivial⟩
abbrev cX35_needExpandedNoSpace : ByteArray := prog_37_method_40_code
def yX35_needExpandedNoSpace : MethodName := ⟨RX35, "needExpandedNoSpace", "()I"⟩
def YX35_needExpandedNoSpace : eY := (yX35_needExpandedNoSpace, cX35_needExpandedNoSpace, 2, (Option.some FieldType.int), [])
theorem mX35_needExpandedNoSpace : e_mv YX35_needExpandedNoSpace RX35 0 := ⟨q5367, qs296, q5368, by decide, by decide +kernel, (e_sig (by decide +kernel))⟩
theorem dX35_needExpandedNoSpace_0 : decode cX35_needExpandedNoSpace 0 = .ok (.aload_n 0, 1) := dc_42 (by decide +kernel)
theorem dX35_needExpandedNoSpace_1 : decode cX35_needExpandedNoSpace 1 = .ok (.invokevirtual 490, 3) := dc_182 (a := 1) (b := 234) (n := 490) (by decide +kernel)
theorem dX35_needExpandedNoSpace_4 : decode cX35_needExpandedNoSpace 4 = .ok (.istore_n 1, 1) := dc_60 (by decide +kernel)
theorem dX35_needExpandedNoSpace_5 : decode cX35_needExpandedNoSpace 5 = .ok (.iload_n 1, 1) := dc_27 (by decide +kernel)
theorem dX35_needExpandedNoSpace_6 : decode cX35_needExpandedNoSpace 6 = .ok (.bipush 10, 2) := dc_16 (a := 10) (v := 10) (by decide +kernel)
theorem dX35_needExpandedNoSpace_8 : decode cX35_needExpandedNoSpace 8 = .ok (.invokestatic 493, 3) := dc_184 (a := 1) (b := 237) (n := 493) (by decide +kernel)
theorem dX35_needExpandedNoSpace_11 : decode cX35_needExpandedNoSpace 11 = .ok (.ifCond .eq 11, 3) := dc_153 (a := 0) (b := 11) (v := 11) (by decide +kernel)
theorem dX35_needExpandedNoSpace_14 : decode cX35_needExpandedNoSpace 14 = .ok (.aload_n 0, 1) := dc_42 (by decide +kernel)
theorem dX35_needExpandedNoSpace_15 : decode cX35_needExpandedNoSpace 15 = .ok (.invokevirtual 490, 3) := dc_182 (a := 1) (b := 234) (n := 490) (by decide +kernel)
theorem dX35_needExpandedNoSpace_18 : decode cX35_needExpandedNoSpace 18 = .ok (.istore_n 1, 1) := dc_60 (by decide +kernel)
theorem dX35_needExpandedNoSpace_19 : decode cX35_needExpandedNoSpace 19 = .ok (.goto (-14), 3) := dc_167 (a := 255) (b := 242) (v := -14) (by decide +kernel)
theorem dX35_needExpandedNoSpace_22 : decode cX35_needExpandedNoSpace 22 = .ok (.iload_n 1, 1) := dc_27 (by decide +kernel)
theorem dX35_needExpandedNoSpace_23 : decode cX35_needExpandedNoSpace 23 = .ok (.ireturn, 1) := dc_172 (by decide +kernel)
def fX35_needExpandedNoSpace_b5 (N : Nat) (sE : Nat → Int32 → eH → Option (Unit × eH)) : Nat → Nat → Int32 → eH → Option (Int32 × eH)
  | 0, _, _, _ => none
  | n + 1, l0, l1, h =>
    (fX35_isOf l1 (10 : Int32) h).bind fun q1 =>
    if q1.1 = 0 then
      some (l1, q1.2)
    else
      (k_ok 34 q1.2 l0).bind fun _ =>
      (fX35_needExpanded N sE l0 q1.2).bind fun q4 =>
      fX35_needExpandedNoSpace_b5 N sE n l0 q4.1 q4.2
theorem pX35_needExpandedNoSpace_b5 {w : eW} {d : Nat} {dr : Nat} (hd : dr + 7 ≤ d + 1) (hdr : 12 ≤ dr) {N : Nat} {sE : Nat → Int32 → eH → Option (Unit × eH)} (hsE : ∀ a t0 h q, sE a t0 h = some q → wm w dr YX35_expand [.ref a, .int t0] h (e_is (e_rn c_V q))) : ∀ (n : Nat) l0 l1 h q, fX35_needExpandedNoSpace_b5 N sE n l0 l1 h = some q → wp w (d + 1) YX35_needExpandedNoSpace 5 [some (.ref l0), some (.int l1)] [] h (e_is (e_rn c_I q)) := by
  intro n
  induction n with
  | zero => intro l0 l1 h q hf; simp [fX35_needExpandedNoSpace_b5] at hf
  | succ n ih =>
    intro l0 l1 h q hf
    rw [fX35_needExpandedNoSpace_b5] at hf
    refine w_iload_n dX35_needExpandedNoSpace_5 rfl rfl ?_
    refine w_bipush dX35_needExpandedNoSpace_6 (v := 10) (by decide) ?_
    refine x_cnI hf (e_stS (Yc := YX35_isOf) (av := [.int l1, .int (10 : Int32)]) (st := []) dX35_needExpandedNoSpace_8 q5166 mX35_isOf) mX35_isOf.2.2.1 mX35_isOf.2.2.2.2.1 (Nat.le_of_ble_eq_true rfl) (Nat.le_of_ble_eq_true rfl) (fun q hq => pX35_isOf (by omega) hq) (fun q1 hf => ?_)
    refine w_if_eq 22 dX35_needExpandedNoSpace_11 (by decide) (fun c2 => ?_) (fun c2 => ?_)
    · replace hf := (if_pos (show q1.1 = 0 from c2)).symm.trans hf
      refine w_iload_n dX35_needExpandedNoSpace_22 rfl rfl ?_
      cases hf
      exact w_iret dX35_needExpandedNoSpace_23 rfl rfl rfl
    · replace hf := (if_neg (show ¬ (q1.1 = 0) from c2)).symm.trans hf
      refine w_aload_n dX35_needExpandedNoSpace_14 rfl rfl ?_
      obtain ⟨_, b3, hf⟩ := Option.bind_eq_some_iff.mp hf
      refine x_cnI hf (e_stV (Yc := YX35_needExpanded) (ci := 34) (av := []) (st := []) dX35_needExpandedNoSpace_15 q5193 mX35_needExpanded rfl (k_ok_some b3).1 (k_ok_some b3).2) mX35_needExpanded.2.2.1 mX35_needExpanded.2.2.2.2.1 (Nat.le_of_ble_eq_true rfl) (Nat.le_of_ble_eq_true rfl) (fun q hq => pX35_needExpanded (by omega) hdr hsE hq) (fun q4 hf => ?_)
      refine w_istore_n dX35_needExpandedNoSpace_18 rfl (by decide) (ls' := [some (.ref l0), some (.int q4.1)]) rfl ?_
      refine w_goto 5 dX35_needExpandedNoSpace_19 (by decide) ?_
      exact (ih _ _ _ _ hf).to ⟨rfl, rfl, trivial⟩
def fX35_needExpandedNoSpace (N : Nat) (sE : Nat → Int32 → eH → Option (Unit × eH)) (this : Nat) (h : eH) : Option (Int32 × eH) :=
  (k_ok 34 h this).bind fun _ =>
  (fX35_needExpanded N sE this h).bind fun q2 =>
  fX35_needExpandedNoSpace_b5 N sE N this q2.1 q2.2
theorem pX35_needExpandedNoSpace {w : eW} {d : Nat} {dr : Nat} (hd : dr + 7 ≤ d) (hdr : 12 ≤ dr) {N : Nat} {sE : Nat → Int32 → eH → Option (Unit × eH)} (hsE : ∀ a t0 h q, sE a t0 h = some q → wm w dr YX35_expand [.ref a, .int t0] h (e_is (e_rn c_V q))) {this : Nat} {h : eH} {q} (hf : fX35_needExpandedNoSpace N sE this h = some q) : wm w d YX35_needExpandedNoSpace [.ref this] h (e_is (e_rn c_I q)) := by
  obtain ⟨d, rfl⟩ : ∃ e, d = e + 1 := ⟨d - 1, by omega⟩
  show wp w (d + 1) YX35_needExpandedNoSpace 0 [some (.ref this), none] [] h _
  unfold fX35_needExpandedNoSpace at hf
  refine w_aload_n dX35_needExpandedNoSpace_0 rfl rfl ?_
  obtain ⟨_, b1, hf⟩ := Option.bind_eq_some_iff.mp hf
  refine x_cnI hf (e_stV (Yc := YX35_needExpanded) (ci := 34) (av := []) (st := []) dX35_needExpandedNoSpace_1 q5193 mX35_needExpanded rfl (k_ok_some b1).1 (k_ok_some b1).2) mX35_needExpanded.2.2.1 mX35_needExpanded.2.2.2.2.1 (Nat.le_of_ble_eq_true rfl) (Nat.le_of_ble_eq_true rfl) (fun q hq => pX35_needExpanded (by omega) hdr hsE hq) (fun q2 hf => ?_)
  refine w_istore_n dX35_needExpandedNoSpace_4 rfl (by decide) (ls' := [some (.ref this), some (.int q2.1)]) rfl ?_
  exact (pX35_needExpandedNoSpace_b5 hd hdr hsE N _ _ _ _ hf).to ⟨rfl, rfl, trivial⟩
abbrev cX35_is : ByteArray := prog_37_method_29_code
def yX35_is : MethodName := ⟨RX35, "is", "(III)Z"⟩
def YX35_is : eY := (yX35_is, cX35_is, 3, (Option.some FieldType.boolean), [])
theorem mX35_is : e_ms YX35_is 3 := ⟨q5230, q466, q5231, by decide, by decide +kernel, (e_sig (by decide +kernel))⟩
theorem dX35_is_0 : decode cX35_is 0 = .ok (.iload_n 0, 1) := dc_26 (by decide +kernel)
theorem dX35_is_1 : decode cX35_is 1 = .ok (.sipush 256, 3) := dc_17 (a := 1) (b := 0) (v := 256) (by decide +kernel)
theorem dX35_is_4 : decode cX35_is 4 = .ok (.iload_n 1, 1) := dc_27 (by decide +kernel)
theorem dX35_is_5 : decode cX35_is 5 = .ok (.imul, 1) := dc_104 (by decide +kernel)
theorem dX35_is_6 : decode cX35_is 6 = .ok (.iload_n 2, 1) := dc_28 (by decide +kernel)
theorem dX35_is_7 : decode cX35_is 7 = .ok (.iadd, 1) := dc_96 (by decide +kernel)
theorem dX35_is_8 : decode cX35_is 8 = .ok (.if_icmp .ne 7, 3) := dc_160 (a := 0) (b := 7) (v := 7) (by decide +kernel)
theorem dX35_is_11 : decode cX35_is 11 = .ok (.iconst 1, 1) := dc_4 (by decide +kernel)
theorem dX35_is_12 : decode cX35_is 12 = .ok (.goto 4, 3) := dc_167 (a := 0) (b := 4) (v := 4) (by decide +kernel)
theorem dX35_is_15 : decode cX35_is 15 = .ok (.iconst 0, 1) := dc_3 (by decide +kernel)
theorem dX35_is_16 : decode cX35_is 16 = .ok (.ireturn, 1) := dc_172 (by decide +kernel)
def fX35_is_b16 (s0 : Int32) (h : eH) : Option (Int32 × eH) :=
  z_r s0 (s0, h)
theorem pX35_is_b16 {w : eW} {d : Nat} (hd : 0 ≤ d) {s0 : Int32} {h : eH} {q} (hf : fX35_is_b16 s0 h = some q) : wp w d YX35_is 16 [none, none, none] [.int s0] h (e_is (e_rn c_I q)) := by
  unfold fX35_is_b16 at hf
  obtain ⟨b1, rfl⟩ := z_r_some hf
  exact w_iret dX35_is_16 rfl b1 rfl
def fX35_is (p0 : Int32) (p1 : Int32) (p2 : Int32) (h : eH) : Option (Int32 × eH) :=
  if ¬ p0 = (((256 : Int32) * p1) + p2) then
    fX35_is_b16 (0 : Int32) h
  else
    fX35_is_b16 (1 : Int32) h
theorem pX35_is {w : eW} {d : Nat} (hd : 0 ≤ d) {p0 : Int32} {p1 : Int32} {p2 : Int32} {h : eH} {q} (hf : fX35_is p0 p1 p2 h = some q) : wm w d YX35_is [.int p0, .int p1, .int p2] h (e_is (e_rn c_I q)) := by
  show wp w d YX35_is 0 [some (.int p0), some (.int p1), some (.int p2)] [] h _
  unfold fX35_is at hf
  refine w_iload_n dX35_is_0 rfl rfl ?_
  refine w_sipush dX35_is_1 (v := 256) (by decide) ?_
  refine w_iload_n dX35_is_4 rfl rfl ?_
  refine w_imul dX35_is_5 ?_
  refine w_iload_n dX35_is_6 rfl rfl ?_
  refine w_iadd dX35_is_7 ?_
  refine w_icmp_ne 15 dX35_is_8 (by decide) (fun c1 => ?_) (fun c1 => ?_)
  · replace hf := (if_pos (show ¬ p0 = (((256 : Int32) * p1) + p2) from c1)).symm.trans hf
    refine w_iconst dX35_is_15 (v := 0) (by decide) ?_
    exact (pX35_is_b16 hd hf).to trivial
  · replace hf := (if_neg (show ¬ (¬ p0 = (((256 : Int32) * p1) + p2)) from (fun z => z c1))).symm.trans hf
    refine w_iconst dX35_is_11 (v := 1) (by decide) ?_
    refine w_goto 16 dX35_is_12 (by decide) ?_
    exact (pX35_is_b16 hd hf).to trivial
abbrev cX35_compare : ByteArray := prog_37_method_60_code
def yX35_compare : MethodName := ⟨RX35, "compare", "()Z"⟩
def YX35_compare : eY := (yX35_compare, cX35_compare, 6, (Option.some FieldType.boolean), [])
theorem mX35_compare : e_mv YX35_compare RX35 0 := ⟨q5431, qs304, q5432, by decide, by decide +kernel, (e_sig (by decide +kernel))⟩
theorem dX35_compare_0 : decode cX35_compare 0 = .ok (.aload_n 0, 1) := dc_42 (by decide +kernel)
theorem dX35_compare_1 : decode cX35_compare 1 = .ok (.invokevirtual 518, 3) := dc_182 (a := 2) (b := 6) (n := 518) (by decide +kernel)
theorem dX35_compare_4 : decode cX35_compare 4 = .ok (.istore_n 1, 1) := dc_60 (by decide +kernel)
theorem dX35_compare_5 : decode cX35_compare 5 = .ok (.aload_n 0, 1) := dc_42 (by decide +kernel)
theorem dX35_compare_6 : decode cX35_compare 6 = .ok (.invokevirtual 607, 3) := dc_182 (a := 2) (b := 95) (n := 607) (by decide +kernel)
theorem dX35_compare_9 : decode cX35_compare 9 = .ok (.istore_n 2, 1) := dc_61 (by decide +kernel)
theorem dX35_compare_10 : decode cX35_compare 10 = .ok (.iload_n 2, 1) := dc_28 (by decide +kernel)
theorem dX35_compare_11 : decode cX35_compare 11 = .ok (.bipush 12, 2) := dc_16 (a := 12) (v := 12) (by decide +kernel)
theorem dX35_compare_13 : decode cX35_compare 13 = .ok (.bipush 60, 2) := dc_16 (a := 60) (v := 60) (by decide +kernel)
theorem dX35_compare_15 : decode cX35_compare 15 = .ok (.invokestatic 610, 3) := dc_184 (a := 2) (b := 98) (n := 610) (by decide +kernel)
theorem dX35_compare_18 : decode cX35_compare 18 = .ok (.istore_n 3, 1) := dc_62 (by decide +kernel)
theorem dX35_compare_19 : decode cX35_compare 19 = .ok (.iload_n 2, 1) := dc_28 (by decide +kernel)
theorem dX35_compare_20 : decode cX35_compare 20 = .ok (.bipush 12, 2) := dc_16 (a := 12) (v := 12) (by decide +kernel)
theorem dX35_compare_22 : decode cX35_compare 22 = .ok (.bipush 62, 2) := dc_16 (a := 62) (v := 62) (by decide +kernel)
theorem dX35_compare_24 : decode cX35_compare 24 = .ok (.invokestatic 610, 3) := dc_184 (a := 2) (b := 98) (n := 610) (by decide +kernel)
theorem dX35_compare_27 : decode cX35_compare 27 = .ok (.istore 4, 2) := dc_54 (a := 4) (by decide +kernel)
theorem dX35_compare_29 : decode cX35_compare 29 = .ok (.aload_n 0, 1) := dc_42 (by decide +kernel)
theorem dX35_compare_30 : decode cX35_compare 30 = .ok (.getfield 321, 3) := dc_180 (a := 1) (b := 65) (n := 321) (by decide +kernel)
theorem dX35_compare_33 : decode cX35_compare 33 = .ok (.ifCond .ne 29, 3) := dc_154 (a := 0) (b := 29) (v := 29) (by decide +kernel)
theorem dX35_compare_36 : decode cX35_compare 36 = .ok (.iload_n 3, 1) := dc_29 (by decide +kernel)
theorem dX35_compare_37 : decode cX35_compare 37 = .ok (.ifCond .ne 25, 3) := dc_154 (a := 0) (b := 25) (v := 25) (by decide +kernel)
theorem dX35_compare_40 : decode cX35_compare 40 = .ok (.iload 4, 2) := dc_21 (a := 4) (by decide +kernel)
theorem dX35_compare_42 : decode cX35_compare 42 = .ok (.ifCond .ne 20, 3) := dc_154 (a := 0) (b := 20) (v := 20) (by decide +kernel)
theorem dX35_compare_45 : decode cX35_compare 45 = .ok (.iload_n 2, 1) := dc_28 (by decide +kernel)
theorem dX35_compare_46 : decode cX35_compare 46 = .ok (.bipush 12, 2) := dc_16 (a := 12) (v := 12) (by decide +kernel)
theorem dX35_compare_48 : decode cX35_compare 48 = .ok (.bipush 61, 2) := dc_16 (a := 61) (v := 61) (by decide +kernel)
theorem dX35_compare_50 : decode cX35_compare 50 = .ok (.invokestatic 610, 3) := dc_184 (a := 2) (b := 98) (n := 610) (by decide +kernel)
theorem dX35_compare_53 : decode cX35_compare 53 = .ok (.ifCond .ne 9, 3) := dc_154 (a := 0) (b := 9) (v := 9) (by decide +kernel)
theorem dX35_compare_56 : decode cX35_compare 56 = .ok (.aload_n 0, 1) := dc_42 (by decide +kernel)
theorem dX35_compare_57 : decode cX35_compare 57 = .ok (.bipush 6, 2) := dc_16 (a := 6) (v := 6) (by decide +kernel)
theorem dX35_compare_59 : decode cX35_compare 59 = .ok (.invokevirtual 428, 3) := dc_182 (a := 1) (b := 172) (n := 428) (by decide +kernel)
theorem dX35_compare_62 : decode cX35_compare 62 = .ok (.aload_n 0, 1) := dc_42 (by decide +kernel)
theorem dX35_compare_63 : decode cX35_compare 63 = .ok (.invokevirtual 518, 3) := dc_182 (a := 2) (b := 6) (n := 518) (by decide +kernel)
theorem dX35_compare_66 : decode cX35_compare 66 = .ok (.istore 5, 2) := dc_54 (a := 5) (by decide +kernel)
theorem dX35_compare_68 : decode cX35_compare 68 = .ok (.aload_n 0, 1) := dc_42 (by decide +kernel)
theorem dX35_compare_69 : decode cX35_compare 69 = .ok (.getfield 321, 3) := dc_180 (a := 1) (b := 65) (n := 321) (by decide +kernel)
theorem dX35_compare_72 : decode cX35_compare 72 = .ok (.ifCond .ne 40, 3) := dc_154 (a := 0) (b := 40) (v := 40) (by decide +kernel)
theorem dX35_compare_75 : decode cX35_compare 75 = .ok (.iload_n 3, 1) := dc_29 (by decide +kernel)
theorem dX35_compare_76 : decode cX35_compare 76 = .ok (.ifCond .eq 12, 3) := dc_153 (a := 0) (b := 12) (v := 12) (by decide +kernel)
theorem dX35_compare_79 : decode cX35_compare 79 = .ok (.iload_n 1, 1) := dc_27 (by decide +kernel)
theorem dX35_compare_80 : decode cX35_compare 80 = .ok (.iload 5, 2) := dc_21 (a := 5) (by decide +kernel)
theorem dX35_compare_82 : decode cX35_compare 82 = .ok (.if_icmp .ge 30, 3) := dc_162 (a := 0) (b := 30) (v := 30) (by decide +kernel)
theorem dX35_compare_85 : decode cX35_compare 85 = .ok (.goto 23, 3) := dc_167 (a := 0) (b := 23) (v := 23) (by decide +kernel)
theorem dX35_compare_88 : decode cX35_compare 88 = .ok (.iload 4, 2) := dc_21 (a := 4) (by decide +kernel)
theorem dX35_compare_90 : decode cX35_compare 90 = .ok (.ifCond .eq 12, 3) := dc_153 (a := 0) (b := 12) (v := 12) (by decide +kernel)
theorem dX35_compare_93 : decode cX35_compare 93 = .ok (.iload_n 1, 1) := dc_27 (by decide +kernel)
theorem dX35_compare_94 : decode cX35_compare 94 = .ok (.iload 5, 2) := dc_21 (a := 5) (by decide +kernel)
theorem dX35_compare_96 : decode cX35_compare 96 = .ok (.if_icmp .le 16, 3) := dc_164 (a := 0) (b := 16) (v := 16) (by decide +kernel)
theorem dX35_compare_99 : decode cX35_compare 99 = .ok (.goto 9, 3) := dc_167 (a := 0) (b := 9) (v := 9) (by decide +kernel)
theorem dX35_compare_102 : decode cX35_compare 102 = .ok (.iload_n 1, 1) := dc_27 (by decide +kernel)
theorem dX35_compare_103 : decode cX35_compare 103 = .ok (.iload 5, 2) := dc_21 (a := 5) (by decide +kernel)
theorem dX35_compare_105 : decode cX35_compare 105 = .ok (.if_icmp .ne 7, 3) := dc_160 (a := 0) (b := 7) (v := 7) (by decide +kernel)
theorem dX35_compare_108 : decode cX35_compare 108 = .ok (.iconst 1, 1) := dc_4 (by decide +kernel)
theorem dX35_compare_109 : decode cX35_compare 109 = .ok (.goto 4, 3) := dc_167 (a := 0) (b := 4) (v := 4) (by decide +kernel)
theorem dX35_compare_112 : decode cX35_compare 112 = .ok (.iconst 0, 1) := dc_3 (by decide +kernel)
theorem dX35_compare_113 : decode cX35_compare 113 = .ok (.ireturn, 1) := dc_172 (by decide +kernel)
def fX35_compare_b113 (N : Nat) (sE : Nat → Int32 → eH → Option (Unit × eH)) (sN : Nat → eH → Option (Int32 × eH)) (s0 : Int32) (h : eH) : Option (Int32 × eH) :=
  z_r s0 (s0, h)
theorem pX35_compare_b113 {w : eW} {d : Nat} {dr : Nat} (hd : dr + 8 ≤ d + 1) (hdr : 12 ≤ dr) {N : Nat} {sE : Nat → Int32 → eH → Option (Unit × eH)} {sN : Nat → eH → Option (Int32 × eH)} (hsE : ∀ a t0 h q, sE a t0 h = some q → wm w dr YX35_expand [.ref a, .int t0] h (e_is (e_rn c_V q))) (hsN : ∀ a h q, sN a h = some q → wm w dr YX35_number [.ref a] h (e_is (e_rn c_I q))) {s0 : Int32} {h : eH} {q} (hf : fX35_compare_b113 N sE sN s0 h = some q) : wp w (d + 1) YX35_compare 113 [none, none, none, none, none, none] [.int s0] h (e_is (e_rn c_I q)) := by
  unfold fX35_compare_b113 at hf
  obtain ⟨b1, rfl⟩ := z_r_some hf
  exact w_iret dX35_compare_113 rfl b1 rfl
def fX35_compare_b108 (N : Nat) (sE : Nat → Int32 → eH → Option (Unit × eH)) (sN : Nat → eH → Option (Int32 × eH))  (h : eH) : Option (Int32 × eH) :=
  fX35_compare_b113 N sE sN (1 : Int32) h
theorem pX35_compare_b108 {w : eW} {d : Nat} {dr : Nat} (hd : dr + 8 ≤ d + 1) (hdr : 12 ≤ dr) {N : Nat} {sE : Nat → Int32 → eH → Option (Unit × eH)} {sN : Nat → eH → Option (Int32 × eH)} (hsE : ∀ a t0 h q, sE a t0 h = some q → wm w dr YX35_expand [.ref a, .int t0] h (e_is (e_rn c_V q))) (hsN : ∀ a h q, sN a h = some q → wm w dr YX35_number [.ref a] h (e_is (e_rn c_I q)))  {h : eH} {q} (hf : fX35_compare_b108 N sE sN h = some q) : wp w (d + 1) YX35_compare 108 [none, none, none, none, none, none] [] h (e_is (e_rn c_I q)) := by
  unfold fX35_compare_b108 at hf
  refine w_iconst dX35_compare_108 (v := 1) (by decide) ?_
  refine w_goto 113 dX35_compare_109 (by decide) ?_
  exact (pX35_compare_b113 hd hdr hsE hsN hf).to trivial
def fX35_compare_b112 (N : Nat) (sE : Nat → Int32 → eH → Option (Unit × eH)) (sN : Nat → eH → Option (Int32 × eH))  (h : eH) : Option (Int32 × eH) :=
  fX35_compare_b113 N sE sN (0 : Int32) h
theorem pX35_compare_b112 {w : eW} {d : Nat} {dr : Nat} (hd : dr + 8 ≤ d + 1) (hdr : 12 ≤ dr) {N : Nat} {sE : Nat → Int32 → eH → Option (Unit × eH)} {sN : Nat → eH → Option (Int32 × eH)} (hsE : ∀ a t0 h q, sE a t0 h = some q → wm w dr YX35_expand [.ref a, .int t0] h (e_is (e_rn c_V q))) (hsN : ∀ a h q, sN a h = some q → wm w dr YX35_number [.ref a] h (e_is (e_rn c_I q)))  {h : eH} {q} (hf : fX35_compare_b112 N sE sN h = some q) : wp w (d + 1) YX35_compare 112 [none, none, none, none, none, none] [] h (e_is (e_rn c_I q)) := by
  unfold fX35_compare_b112 at hf
  refine w_iconst dX35_compare_112 (v := 0) (by decide) ?_
  exact (pX35_compare_b113 hd hdr hsE hsN hf).to trivial
def fX35_compare_b62 (N : Nat) (sE : Nat → Int32 → eH → Option (Unit × eH)) (sN : Nat → eH → Option (Int32 × eH)) (l0 : Nat) (l1 : Int32) (l3 : Int32) (l4 : Int32) (h : eH) : Option (Int32 × eH) :=
  (k_ok 34 h l0).bind fun _ =>
  (sN l0 h).bind fun q2 =>
  (g_I 34 q2.2 l0 46).bind fun x3 =>
  if ¬ x3 = 0 then
    fX35_compare_b112 N sE sN q2.2
  else
    if l3 = 0 then
      if l4 = 0 then
        if ¬ l1 = q2.1 then
          fX35_compare_b112 N sE sN q2.2
        else
          fX35_compare_b108 N sE sN q2.2
      else
        if l1 ≤ q2.1 then
          fX35_compare_b112 N sE sN q2.2
        else
          fX35_compare_b108 N sE sN q2.2
    else
      if q2.1 ≤ l1 then
        fX35_compare_b112 N sE sN q2.2
      else
        fX35_compare_b108 N sE sN q2.2
theorem pX35_compare_b62 {w : eW} {d : Nat} {dr : Nat} (hd : dr + 8 ≤ d + 1) (hdr : 12 ≤ dr) {N : Nat} {sE : Nat → Int32 → eH → Option (Unit × eH)} {sN : Nat → eH → Option (Int32 × eH)} (hsE : ∀ a t0 h q, sE a t0 h = some q → wm w dr YX35_expand [.ref a, .int t0] h (e_is (e_rn c_V q))) (hsN : ∀ a h q, sN a h = some q → wm w dr YX35_number [.ref a] h (e_is (e_rn c_I q))) {l0 : Nat} {l1 : Int32} {l3 : Int32} {l4 : Int32} {h : eH} {q} (hf : fX35_compare_b62 N sE sN l0 l1 l3 l4 h = some q) : wp w (d + 1) YX35_compare 62 [some (.ref l0), some (.int l1), none, some (.int l3), some (.int l4), none] [] h (e_is (e_rn c_I q)) := by
  unfold fX35_compare_b62 at hf
  refine w_aload_n dX35_compare_62 rfl rfl ?_
  obtain ⟨_, b1, hf⟩ := Option.bind_eq_some_iff.mp hf
  refine x_cnI hf (e_stV (Yc := YX35_number) (ci := 34) (av := []) (st := []) dX35_compare_63 q5217 mX35_number rfl (k_ok_some b1).1 (k_ok_some b1).2) mX35_number.2.2.1 mX35_number.2.2.2.2.1 (Nat.le_of_ble_eq_true rfl) (Nat.le_of_ble_eq_true rfl) (fun q hq => (hsN _ _ _ hq).up (by omega)) (fun q2 hf => ?_)
  refine w_istore dX35_compare_66 (by decide) (ls' := [some (.ref l0), some (.int l1), none, some (.int l3), some (.int l4), some (.int q2.1)]) rfl ?_
  refine w_aload_n dX35_compare_68 rfl rfl ?_
  obtain ⟨x3, b4, hf⟩ := Option.bind_eq_some_iff.mp hf
  refine GX35_321 b4 dX35_compare_69 rfl ?_
  refine w_if_ne 112 dX35_compare_72 (by decide) (fun c5 => ?_) (fun c5 => ?_)
  · replace hf := (if_pos (show ¬ x3 = 0 from c5)).symm.trans hf
    exact (pX35_compare_b112 hd hdr hsE hsN hf).to trivial
  · replace hf := (if_neg (show ¬ (¬ x3 = 0) from (fun z => z c5))).symm.trans hf
    refine w_iload_n dX35_compare_75 rfl rfl ?_
    refine w_if_eq 88 dX35_compare_76 (by decide) (fun c6 => ?_) (fun c6 => ?_)
    · replace hf := (if_pos (show l3 = 0 from c6)).symm.trans hf
      refine w_iload dX35_compare_88 rfl ?_
      refine w_if_eq 102 dX35_compare_90 (by decide) (fun c7 => ?_) (fun c7 => ?_)
      · replace hf := (if_pos (show l4 = 0 from c7)).symm.trans hf
        refine w_iload_n dX35_compare_102 rfl rfl ?_
        refine w_iload dX35_compare_103 rfl ?_
        refine w_icmp_ne 112 dX35_compare_105 (by decide) (fun c8 => ?_) (fun c8 => ?_)
        · replace hf := (if_pos (show ¬ l1 = q2.1 from c8)).symm.trans hf
          exact (pX35_compare_b112 hd hdr hsE hsN hf).to trivial
        · replace hf := (if_neg (show ¬ (¬ l1 = q2.1) from (fun z => z c8))).symm.trans hf
          exact (pX35_compare_b108 hd hdr hsE hsN hf).to trivial
      · replace hf := (if_neg (show ¬ (l4 = 0) from c7)).symm.trans hf
        refine w_iload_n dX35_compare_93 rfl rfl ?_
        refine w_iload dX35_compare_94 rfl ?_
        refine w_icmp_le 112 dX35_compare_96 (by decide) (fun c9 => ?_) (fun c9 => ?_)
        · replace hf := (if_pos (show l1 ≤ q2.1 from c9)).symm.trans hf
          exact (pX35_compare_b112 hd hdr hsE hsN hf).to trivial
        · replace hf := (if_neg (show ¬ (l1 ≤ q2.1) from c9)).symm.trans hf
          refine w_goto 108 dX35_compare_99 (by decide) ?_
          exact (pX35_compare_b108 hd hdr hsE hsN hf).to trivial
    · replace hf := (if_neg (show ¬ (l3 = 0) from c6)).symm.trans hf
      refine w_iload_n dX35_compare_79 rfl rfl ?_
      refine w_iload dX35_compare_80 rfl ?_
      refine w_icmp_ge 112 dX35_compare_82 (by decide) (fun c10 => ?_) (fun c10 => ?_)
      · replace hf := (if_pos (show q2.1 ≤ l1 from c10)).symm.trans hf
        exact (pX35_compare_b112 hd hdr hsE hsN hf).to trivial
      · replace hf := (if_neg (show ¬ (q2.1 ≤ l1) from c10)).symm.trans hf
        refine w_goto 108 dX35_compare_85 (by decide) ?_
        exact (pX35_compare_b108 hd hdr hsE hsN hf).to trivial
def fX35_compare (N : Nat) (sE : Nat → Int32 → eH → Option (Unit × eH)) (sN : Nat → eH → Option (Int32 × eH)) (this : Nat) (h : eH) : Option (Int32 × eH) :=
  (k_ok 34 h this).bind fun _ =>
  (sN this h).bind fun q2 =>
  (k_ok 34 q2.2 this).bind fun _ =>
  (fX35_needExpandedNoSpace N sE this q2.2).bind fun q4 =>
  (fX35_is q4.1 (12 : Int32) (60 : Int32) q4.2).bind fun q5 =>
  (fX35_is q4.1 (12 : Int32) (62 : Int32) q5.2).bind fun q6 =>
  (g_I 34 q6.2 this 46).bind fun x7 =>
  if ¬ x7 = 0 then
    fX35_compare_b62 N sE sN this q2.1 q5.1 q6.1 q6.2
  else
    if ¬ q5.1 = 0 then
      fX35_compare_b62 N sE sN this q2.1 q5.1 q6.1 q6.2
    else
      if ¬ q6.1 = 0 then
        fX35_compare_b62 N sE sN this q2.1 q5.1 q6.1 q6.2
      else
        (fX35_is q4.1 (12 : Int32) (61 : Int32) q6.2).bind fun q12 =>
        if ¬ q12.1 = 0 then
          fX35_compare_b62 N sE sN this q2.1 q5.1 q6.1 q12.2
        else
          (k_ok 34 q12.2 this).bind fun _ =>
          (fX35_fail this (6 : Int32) q12.2).bind fun q15 =>
          fX35_compare_b62 N sE sN this q2.1 q5.1 q6.1 q15.2
theorem pX35_compare {w : eW} {d : Nat} {dr : Nat} (hd : dr + 8 ≤ d) (hdr : 12 ≤ dr) {N : Nat} {sE : Nat → Int32 → eH → Option (Unit × eH)} {sN : Nat → eH → Option (Int32 × eH)} (hsE : ∀ a t0 h q, sE a t0 h = some q → wm w dr YX35_expand [.ref a, .int t0] h (e_is (e_rn c_V q))) (hsN : ∀ a h q, sN a h = some q → wm w dr YX35_number [.ref a] h (e_is (e_rn c_I q))) {this : Nat} {h : eH} {q} (hf : fX35_compare N sE sN this h = some q) : wm w d YX35_compare [.ref this] h (e_is (e_rn c_I q)) := by
  obtain ⟨d, rfl⟩ : ∃ e, d = e + 1 := ⟨d - 1, by omega⟩
  show wp w (d + 1) YX35_compare 0 [some (.ref this), none, none, none, none, none] [] h _
  unfold fX35_compare at hf
  refine w_aload_n dX35_compare_0 rfl rfl ?_
  obtain ⟨_, b1, hf⟩ := Option.bind_eq_some_iff.mp hf
  refine x_cnI hf (e_stV (Yc := YX35_number) (ci := 34) (av := []) (st := []) dX35_compare_1 q5217 mX35_number rfl (k_ok_some b1).1 (k_ok_some b1).2) mX35_number.2.2.1 mX35_number.2.2.2.2.1 (Nat.le_of_ble_eq_true rfl) (Nat.le_of_ble_eq_true rfl) (fun q hq => (hsN _ _ _ hq).up (by omega)) (fun q2 hf => ?_)
  refine w_istore_n dX35_compare_4 rfl (by decide) (ls' := [some (.ref this), some (.int q2.1), none, none, none, none]) rfl ?_
  refine w_aload_n dX35_compare_5 rfl rfl ?_
  obtain ⟨_, b3, hf⟩ := Option.bind_eq_some_iff.mp hf
  refine x_cnI hf (e_stV (Yc := YX35_needExpandedNoSpace) (ci := 34) (av := []) (st := []) dX35_compare_6 q5365 mX35_needExpandedNoSpace rfl (k_ok_some b3).1 (k_ok_some b3).2) mX35_needExpandedNoSpace.2.2.1 mX35_needExpandedNoSpace.2.2.2.2.1 (Nat.le_of_ble_eq_true rfl) (Nat.le_of_ble_eq_true rfl) (fun q hq => pX35_needExpandedNoSpace (by omega) hdr hsE hq) (fun q4 hf => ?_)
  refine w_istore_n dX35_compare_9 rfl (by decide) (ls' := [some (.ref this), some (.int q2.1), some (.int q4.1), none, none, none]) rfl ?_
  refine w_iload_n dX35_compare_10 rfl rfl ?_
  refine w_bipush dX35_compare_11 (v := 12) (by decide) ?_
  refine w_bipush dX35_compare_13 (v := 60) (by decide) ?_
  refine x_cnI hf (e_stS (Yc := YX35_is) (av := [.int q4.1, .int (12 : Int32), .int (60 : Int32)]) (st := []) dX35_compare_15 q5229 mX35_is) mX35_is.2.2.1 mX35_is.2.2.2.2.1 (Nat.le_of_ble_eq_true rfl) (Nat.le_of_ble_eq_true rfl) (fun q hq => pX35_is (by omega) hq) (fun q5 hf => ?_)
  refine w_istore_n dX35_compare_18 rfl (by decide) (ls' := [some (.ref this), some (.int q2.1), some (.int q4.1), some (.int q5.1), none, none]) rfl ?_
  refine w_iload_n dX35_compare_19 rfl rfl ?_
  refine w_bipush dX35_compare_20 (v := 12) (by decide) ?_
  refine w_bipush dX35_compare_22 (v := 62) (by decide) ?_
  refine x_cnI hf (e_stS (Yc := YX35_is) (av := [.int q4.1, .int (12 : Int32), .int (62 : Int32)]) (st := []) dX35_compare_24 q5229 mX35_is) mX35_is.2.2.1 mX35_is.2.2.2.2.1 (Nat.le_of_ble_eq_true rfl) (Nat.le_of_ble_eq_true rfl) (fun q hq => pX35_is (by omega) hq) (fun q6 hf => ?_)
  refine w_istore dX35_compare_27 (by decide) (ls' := [some (.ref this), some (.int q2.1), some (.int q4.1), some (.int q5.1), some (.int q6.1), none]) rfl ?_
  refine w_aload_n dX35_compare_29 rfl rfl ?_
  obtain ⟨x7, b8, hf⟩ := Option.bind_eq_some_iff.mp hf
  refine GX35_321 b8 dX35_compare_30 rfl ?_
  refine w_if_ne 62 dX35_compare_33 (by decide) (fun c9 => ?_) (fun c9 => ?_)
  · replace hf := (if_pos (show ¬ x7 = 0 from c9)).symm.trans hf
    exact (pX35_compare_b62 hd hdr hsE hsN hf).to ⟨rfl, rfl, rfl, rfl, trivial⟩
  · replace hf := (if_neg (show ¬ (¬ x7 = 0) from (fun z => z c9))).symm.trans hf
    refine w_iload_n dX35_compare_36 rfl rfl ?_
    refine w_if_ne 62 dX35_compare_37 (by decide) (fun c10 => ?_) (fun c10 => ?_)
    · replace hf := (if_pos (show ¬ q5.1 = 0 from c10)).symm.trans hf
      exact (pX35_compare_b62 hd hdr hsE hsN hf).to ⟨rfl, rfl, rfl, rfl, trivial⟩
    · replace hf := (if_neg (show ¬ (¬ q5.1 = 0) from (fun z => z c10))).symm.trans hf
      refine w_iload dX35_compare_40 rfl ?_
      refine w_if_ne 62 dX35_compare_42 (by decide) (fun c11 => ?_) (fun c11 => ?_)
      · replace hf := (if_pos (show ¬ q6.1 = 0 from c11)).symm.trans hf
        exact (pX35_compare_b62 hd hdr hsE hsN hf).to ⟨rfl, rfl, rfl, rfl, trivial⟩
      · replace hf := (if_neg (show ¬ (¬ q6.1 = 0) from (fun z => z c11))).symm.trans hf
        refine w_iload_n dX35_compare_45 rfl rfl ?_
        refine w_bipush dX35_compare_46 (v := 12) (by decide) ?_
        refine w_bipush dX35_compare_48 (v := 61) (by decide) ?_
        refine x_cnI hf (e_stS (Yc := YX35_is) (av := [.int q4.1, .int (12 : Int32), .int (61 : Int32)]) (st := []) dX35_compare_50 q5229 mX35_is) mX35_is.2.2.1 mX35_is.2.2.2.2.1 (Nat.le_of_ble_eq_true rfl) (Nat.le_of_ble_eq_true rfl) (fun q hq => pX35_is (by omega) hq) (fun q12 hf => ?_)
        refine w_if_ne 62 dX35_compare_53 (by decide) (fun c13 => ?_) (fun c13 => ?_)
        · replace hf := (if_pos (show ¬ q12.1 = 0 from c13)).symm.trans hf
          exact (pX35_compare_b62 hd hdr hsE hsN hf).to ⟨rfl, rfl, rfl, rfl, trivial⟩
        · replace hf := (if_neg (show ¬ (¬ q12.1 = 0) from (fun z => z c13))).symm.trans hf
          refine w_aload_n dX35_compare_56 rfl rfl ?_
          refine w_bipush dX35_compare_57 (v := 6) (by decide) ?_
          obtain ⟨_, b14, hf⟩ := Option.bind_eq_some_iff.mp hf
          refine x_cnV hf (e_stV (Yc := YX35_fail) (ci := 34) (av := [.int (6 : Int32)]) (st := []) dX35_compare_59 q5109 mX35_fail rfl (k_ok_some b14).1 (k_ok_some b14).2) mX35_fail.2.2.1 mX35_fail.2.2.2.2.1 (Nat.le_of_ble_eq_true rfl) (Nat.le_of_ble_eq_true rfl) (fun q hq => pX35_fail (by omega) hq) (fun q15 hf => ?_)
          exact (pX35_compare_b62 hd hdr hsE hsN hf).to ⟨rfl, rfl, rfl, rfl, trivial⟩
abbrev cX35_signs : ByteArray := prog_37_method_82_code
def yX35_signs : MethodName := ⟨RX35, "signs", "()V"⟩
def YX35_signs : eY := (yX35_signs, cX35_signs, 3, none, [])
theorem mX35_signs : e_mv YX35_signs RX35 0 := ⟨q5227, qs269, q5228, by decide, by decide +kernel, (e_sig (by decide +kernel))⟩
theorem dX35_signs_0 : decode cX35_signs 0 = .ok (.iconst 0, 1) := dc_3 (by decide +kernel)
theorem dX35_signs_1 : decode cX35_signs 1 = .ok (.istore_n 1, 1) := dc_60 (by decide +kernel)
theorem dX35_signs_2 : decode cX35_signs 2 = .ok (.aload_n 0, 1) := dc_42 (by decide +kernel)
theorem dX35_signs_3 : decode cX35_signs 3 = .ok (.invokevirtual 490, 3) := dc_182 (a := 1) (b := 234) (n := 490) (by decide +kernel)
theorem dX35_signs_6 : decode cX35_signs 6 = .ok (.istore_n 2, 1) := dc_61 (by decide +kernel)
theorem dX35_signs_7 : decode cX35_signs 7 = .ok (.iload_n 2, 1) := dc_28 (by decide +kernel)
theorem dX35_signs_8 : decode cX35_signs 8 = .ok (.bipush 10, 2) := dc_16 (a := 10) (v := 10) (by decide +kernel)
theorem dX35_signs_10 : decode cX35_signs 10 = .ok (.invokestatic 493, 3) := dc_184 (a := 1) (b := 237) (n := 493) (by decide +kernel)
theorem dX35_signs_13 : decode cX35_signs 13 = .ok (.ifCond .ne 25, 3) := dc_154 (a := 0) (b := 25) (v := 25) (by decide +kernel)
theorem dX35_signs_16 : decode cX35_signs 16 = .ok (.iload_n 2, 1) := dc_28 (by decide +kernel)
theorem dX35_signs_17 : decode cX35_signs 17 = .ok (.bipush 12, 2) := dc_16 (a := 12) (v := 12) (by decide +kernel)
theorem dX35_signs_19 : decode cX35_signs 19 = .ok (.bipush 43, 2) := dc_16 (a := 43) (v := 43) (by decide +kernel)
theorem dX35_signs_21 : decode cX35_signs 21 = .ok (.invokestatic 610, 3) := dc_184 (a := 2) (b := 98) (n := 610) (by decide +kernel)
theorem dX35_signs_24 : decode cX35_signs 24 = .ok (.ifCond .ne 14, 3) := dc_154 (a := 0) (b := 14) (v := 14) (by decide +kernel)
theorem dX35_signs_27 : decode cX35_signs 27 = .ok (.iload_n 2, 1) := dc_28 (by decide +kernel)
theorem dX35_signs_28 : decode cX35_signs 28 = .ok (.bipush 12, 2) := dc_16 (a := 12) (v := 12) (by decide +kernel)
theorem dX35_signs_30 : decode cX35_signs 30 = .ok (.bipush 45, 2) := dc_16 (a := 45) (v := 45) (by decide +kernel)
theorem dX35_signs_32 : decode cX35_signs 32 = .ok (.invokestatic 610, 3) := dc_184 (a := 2) (b := 98) (n := 610) (by decide +kernel)
theorem dX35_signs_35 : decode cX35_signs 35 = .ok (.ifCond .eq 29, 3) := dc_153 (a := 0) (b := 29) (v := 29) (by decide +kernel)
theorem dX35_signs_38 : decode cX35_signs 38 = .ok (.iload_n 2, 1) := dc_28 (by decide +kernel)
theorem dX35_signs_39 : decode cX35_signs 39 = .ok (.bipush 12, 2) := dc_16 (a := 12) (v := 12) (by decide +kernel)
theorem dX35_signs_41 : decode cX35_signs 41 = .ok (.bipush 45, 2) := dc_16 (a := 45) (v := 45) (by decide +kernel)
theorem dX35_signs_43 : decode cX35_signs 43 = .ok (.invokestatic 610, 3) := dc_184 (a := 2) (b := 98) (n := 610) (by decide +kernel)
theorem dX35_signs_46 : decode cX35_signs 46 = .ok (.iload_n 1, 1) := dc_27 (by decide +kernel)
theorem dX35_signs_47 : decode cX35_signs 47 = .ok (.if_icmp .eq 7, 3) := dc_159 (a := 0) (b := 7) (v := 7) (by decide +kernel)
theorem dX35_signs_50 : decode cX35_signs 50 = .ok (.iconst 1, 1) := dc_4 (by decide +kernel)
theorem dX35_signs_51 : decode cX35_signs 51 = .ok (.goto 4, 3) := dc_167 (a := 0) (b := 4) (v := 4) (by decide +kernel)
theorem dX35_signs_54 : decode cX35_signs 54 = .ok (.iconst 0, 1) := dc_3 (by decide +kernel)
theorem dX35_signs_55 : decode cX35_signs 55 = .ok (.istore_n 1, 1) := dc_60 (by decide +kernel)
theorem dX35_signs_56 : decode cX35_signs 56 = .ok (.aload_n 0, 1) := dc_42 (by decide +kernel)
theorem dX35_signs_57 : decode cX35_signs 57 = .ok (.invokevirtual 490, 3) := dc_182 (a := 1) (b := 234) (n := 490) (by decide +kernel)
theorem dX35_signs_60 : decode cX35_signs 60 = .ok (.istore_n 2, 1) := dc_61 (by decide +kernel)
theorem dX35_signs_61 : decode cX35_signs 61 = .ok (.goto (-54), 3) := dc_167 (a := 255) (b := 202) (v := -54) (by decide +kernel)
theorem dX35_signs_64 : decode cX35_signs 64 = .ok (.aload_n 0, 1) := dc_42 (by decide +kernel)
theorem dX35_signs_65 : decode cX35_signs 65 = .ok (.iload_n 2, 1) := dc_28 (by decide +kernel)
theorem dX35_signs_66 : decode cX35_signs 66 = .ok (.putfield 651, 3) := dc_181 (a := 2) (b := 139) (n := 651) (by decide +kernel)
theorem dX35_signs_69 : decode cX35_signs 69 = .ok (.aload_n 0, 1) := dc_42 (by decide +kernel)
theorem dX35_signs_70 : decode cX35_signs 70 = .ok (.iload_n 1, 1) := dc_27 (by decide +kernel)
theorem dX35_signs_71 : decode cX35_signs 71 = .ok (.putfield 654, 3) := dc_181 (a := 2) (b := 142) (n := 654) (by decide +kernel)
theorem dX35_signs_74 : decode cX35_signs 74 = .ok (.return_, 1) := dc_177 (by decide +kernel)
theorem SX35_651 {w : eW} {d : Nat} {Y : eY} {pc : Nat} {ls : eL} {st : List Value} {h : eH} {Q : eO → eH → Prop} {a : Nat} {h' : eH} {x : Int32} (hf : p_V 34 h a 121 (.int x) = some h') (hd : decode Y.2.1 pc = .ok (.putfield 651, 3)) (hY : Y.1.cls = RX35) (kk : wp w d Y (pc + 3) ls st h' Q) : wp w d Y pc ls (.int x :: .ref a :: st) h Q := x_pI (ci := 34) (k := 121) hf hd rfl (by decide) (by rw [hY]; exact q4622) rfl rfl kk
theorem SX35_654 {w : eW} {d : Nat} {Y : eY} {pc : Nat} {ls : eL} {st : List Value} {h : eH} {Q : eO → eH → Prop} {a : Nat} {h' : eH} {x : Int32} (hf : p_Z 34 h a 122 x = some h') (hd : decode Y.2.1 pc = .ok (.putfield 654, 3)) (hY : Y.1.cls = RX35) (kk : wp w d Y (pc + 3) ls st h' Q) : wp w d Y pc ls (.int x :: .ref a :: st) h Q := x_pZ (ci := 34) (k := 122) hf hd rfl (by decide) (by rw [hY]; exact q4623) rfl rfl kk
def fX35_signs_b55 (N : Nat) (sE : Nat → Int32 → eH → Option (Unit × eH)) (k7 : Nat → Int32 → Int32 → eH → Option (Unit × eH)) (l0 : Nat) (s0 : Int32) (h : eH) : Option (Unit × eH) :=
  (k_ok 34 h l0).bind fun _ =>
  (fX35_needExpanded N sE l0 h).bind fun q2 =>
  k7 l0 s0 q2.1 q2.2
theorem pX35_signs_b55 {w : eW} {d : Nat} {dr : Nat} (hd : dr + 7 ≤ d + 1) (hdr : 12 ≤ dr) {N : Nat} {sE : Nat → Int32 → eH → Option (Unit × eH)} (hsE : ∀ a t0 h q, sE a t0 h = some q → wm w dr YX35_expand [.ref a, .int t0] h (e_is (e_rn c_V q))) {k7 : Nat → Int32 → Int32 → eH → Option (Unit × eH)} (hk7 : ∀ l0 l1 l2 h q, k7 l0 l1 l2 h = some q → wp w (d + 1) YX35_signs 7 [some (.ref l0), some (.int l1), some (.int l2)] [] h (e_is (e_rn c_V q))) {l0 : Nat} {s0 : Int32} {h : eH} {q} (hf : fX35_signs_b55 N sE k7 l0 s0 h = some q) : wp w (d + 1) YX35_signs 55 [some (.ref l0), none, none] [.int s0] h (e_is (e_rn c_V q)) := by
  unfold fX35_signs_b55 at hf
  refine w_istore_n dX35_signs_55 rfl (by decide) (ls' := [some (.ref l0), some (.int s0), none]) rfl ?_
  refine w_aload_n dX35_signs_56 rfl rfl ?_
  obtain ⟨_, b1, hf⟩ := Option.bind_eq_some_iff.mp hf
  refine x_cnI hf (e_stV (Yc := YX35_needExpanded) (ci := 34) (av := []) (st := []) dX35_signs_57 q5193 mX35_needExpanded rfl (k_ok_some b1).1 (k_ok_some b1).2) mX35_needExpanded.2.2.1 mX35_needExpanded.2.2.2.2.1 (Nat.le_of_ble_eq_true rfl) (Nat.le_of_ble_eq_true rfl) (fun q hq => pX35_needExpanded (by omega) hdr hsE hq) (fun q2 hf => ?_)
  refine w_istore_n dX35_signs_60 rfl (by decide) (ls' := [some (.ref l0), some (.int s0), some (.int q2.1)]) rfl ?_
  refine w_goto 7 dX35_signs_61 (by decide) ?_
  exact (hk7 _ _ _ _ _ hf).to ⟨rfl, rfl, rfl, trivial⟩
def fX35_signs_b38 (N : Nat) (sE : Nat → Int32 → eH → Option (Unit × eH)) (k7 : Nat → Int32 → Int32 → eH → Option (Unit × eH)) (l0 : Nat) (l1 : Int32) (l2 : Int32) (h : eH) : Option (Unit × eH) :=
  (fX35_is l2 (12 : Int32) (45 : Int32) h).bind fun q1 =>
  if q1.1 = l1 then
    fX35_signs_b55 N sE k7 l0 (0 : Int32) q1.2
  else
    fX35_signs_b55 N sE k7 l0 (1 : Int32) q1.2
theorem pX35_signs_b38 {w : eW} {d : Nat} {dr : Nat} (hd : dr + 7 ≤ d + 1) (hdr : 12 ≤ dr) {N : Nat} {sE : Nat → Int32 → eH → Option (Unit × eH)} (hsE : ∀ a t0 h q, sE a t0 h = some q → wm w dr YX35_expand [.ref a, .int t0] h (e_is (e_rn c_V q))) {k7 : Nat → Int32 → Int32 → eH → Option (Unit × eH)} (hk7 : ∀ l0 l1 l2 h q, k7 l0 l1 l2 h = some q → wp w (d + 1) YX35_signs 7 [some (.ref l0), some (.int l1), some (.int l2)] [] h (e_is (e_rn c_V q))) {l0 : Nat} {l1 : Int32} {l2 : Int32} {h : eH} {q} (hf : fX35_signs_b38 N sE k7 l0 l1 l2 h = some q) : wp w (d + 1) YX35_signs 38 [some (.ref l0), some (.int l1), some (.int l2)] [] h (e_is (e_rn c_V q)) := by
  unfold fX35_signs_b38 at hf
  refine w_iload_n dX35_signs_38 rfl rfl ?_
  refine w_bipush dX35_signs_39 (v := 12) (by decide) ?_
  refine w_bipush dX35_signs_41 (v := 45) (by decide) ?_
  refine x_cnI hf (e_stS (Yc := YX35_is) (av := [.int l2, .int (12 : Int32), .int (45 : Int32)]) (st := []) dX35_signs_43 q5229 mX35_is) mX35_is.2.2.1 mX35_is.2.2.2.2.1 (Nat.le_of_ble_eq_true rfl) (Nat.le_of_ble_eq_true rfl) (fun q hq => pX35_is (by omega) hq) (fun q1 hf => ?_)
  refine w_iload_n dX35_signs_46 rfl rfl ?_
  refine w_icmp_eq 54 dX35_signs_47 (by decide) (fun c2 => ?_) (fun c2 => ?_)
  · replace hf := (if_pos (show q1.1 = l1 from c2)).symm.trans hf
    refine w_iconst dX35_signs_54 (v := 0) (by decide) ?_
    exact (pX35_signs_b55 hd hdr hsE hk7 hf).to ⟨rfl, trivial⟩
  · replace hf := (if_neg (show ¬ (q1.1 = l1) from c2)).symm.trans hf
    refine w_iconst dX35_signs_50 (v := 1) (by decide) ?_
    refine w_goto 55 dX35_signs_51 (by decide) ?_
    exact (pX35_signs_b55 hd hdr hsE hk7 hf).to ⟨rfl, trivial⟩
def fX35_signs_b7 (N : Nat) (sE : Nat → Int32 → eH → Option (Unit × eH)) : Nat → Nat → Int32 → Int32 → eH → Option (Unit × eH)
  | 0, _, _, _, _ => none
  | n + 1, l0, l1, l2, h =>
    (fX35_isOf l2 (10 : Int32) h).bind fun q1 =>
    if ¬ q1.1 = 0 then
      fX35_signs_b38 N sE (fX35_signs_b7 N sE n) l0 l1 l2 q1.2
    else
      (fX35_is l2 (12 : Int32) (43 : Int32) q1.2).bind fun q3 =>
      if ¬ q3.1 = 0 then
        fX35_signs_b38 N sE (fX35_signs_b7 N sE n) l0 l1 l2 q3.2
      else
        (fX35_is l2 (12 : Int32) (45 : Int32) q3.2).bind fun q5 =>
        if q5.1 = 0 then
          (p_V 34 q5.2 l0 121 (.int l2)).bind fun h7 =>
          (p_Z 34 h7 l0 122 l1).bind fun h9 =>
          some ((), h9)
        else
          fX35_signs_b38 N sE (fX35_signs_b7 N sE n) l0 l1 l2 q5.2
theorem pX35_signs_b7 {w : eW} {d : Nat} {dr : Nat} (hd : dr + 7 ≤ d + 1) (hdr : 12 ≤ dr) {N : Nat} {sE : Nat → Int32 → eH → Option (Unit × eH)} (hsE : ∀ a t0 h q, sE a t0 h = some q → wm w dr YX35_expand [.ref a, .int t0] h (e_is (e_rn c_V q))) : ∀ (n : Nat) l0 l1 l2 h q, fX35_signs_b7 N sE n l0 l1 l2 h = some q → wp w (d + 1) YX35_signs 7 [some (.ref l0), some (.int l1), some (.int l2)] [] h (e_is (e_rn c_V q)) := by
  intro n
  induction n with
  | zero => intro l0 l1 l2 h q hf; simp [fX35_signs_b7] at hf
  | succ n ih =>
    intro l0 l1 l2 h q hf
    rw [fX35_signs_b7] at hf
    refine w_iload_n dX35_signs_7 rfl rfl ?_
    refine w_bipush dX35_signs_8 (v := 10) (by decide) ?_
    refine x_cnI hf (e_stS (Yc := YX35_isOf) (av := [.int l2, .int (10 : Int32)]) (st := []) dX35_signs_10 q5166 mX35_isOf) mX35_isOf.2.2.1 mX35_isOf.2.2.2.2.1 (Nat.le_of_ble_eq_true rfl) (Nat.le_of_ble_eq_true rfl) (fun q hq => pX35_isOf (by omega) hq) (fun q1 hf => ?_)
    refine w_if_ne 38 dX35_signs_13 (by decide) (fun c2 => ?_) (fun c2 => ?_)
    · replace hf := (if_pos (show ¬ q1.1 = 0 from c2)).symm.trans hf
      exact (pX35_signs_b38 hd hdr hsE ih hf).to ⟨rfl, rfl, rfl, trivial⟩
    · replace hf := (if_neg (show ¬ (¬ q1.1 = 0) from (fun z => z c2))).symm.trans hf
      refine w_iload_n dX35_signs_16 rfl rfl ?_
      refine w_bipush dX35_signs_17 (v := 12) (by decide) ?_
      refine w_bipush dX35_signs_19 (v := 43) (by decide) ?_
      refine x_cnI hf (e_stS (Yc := YX35_is) (av := [.int l2, .int (12 : Int32), .int (43 : Int32)]) (st := []) dX35_signs_21 q5229 mX35_is) mX35_is.2.2.1 mX35_is.2.2.2.2.1 (Nat.le_of_ble_eq_true rfl) (Nat.le_of_ble_eq_true rfl) (fun q hq => pX35_is (by omega) hq) (fun q3 hf => ?_)
      refine w_if_ne 38 dX35_signs_24 (by decide) (fun c4 => ?_) (fun c4 => ?_)
      · replace hf := (if_pos (show ¬ q3.1 = 0 from c4)).symm.trans hf
        exact (pX35_signs_b38 hd hdr hsE ih hf).to ⟨rfl, rfl, rfl, trivial⟩
      · replace hf := (if_neg (show ¬ (¬ q3.1 = 0) from (fun z => z c4))).symm.trans hf
        refine w_iload_n dX35_signs_27 rfl rfl ?_
        refine w_bipush dX35_signs_28 (v := 12) (by decide) ?_
        refine w_bipush dX35_signs_30 (v := 45) (by decide) ?_
        refine x_cnI hf (e_stS (Yc := YX35_is) (av := [.int l2, .int (12 : Int32), .int (45 : Int32)]) (st := []) dX35_signs_32 q5229 mX35_is) mX35_is.2.2.1 mX35_is.2.2.2.2.1 (Nat.le_of_ble_eq_true rfl) (Nat.le_of_ble_eq_true rfl) (fun q hq => pX35_is (by omega) hq) (fun q5 hf => ?_)
        refine w_if_eq 64 dX35_signs_35 (by decide) (fun c6 => ?_) (fun c6 => ?_)
        · replace hf := (if_pos (show q5.1 = 0 from c6)).symm.trans hf
          refine w_aload_n dX35_signs_64 rfl rfl ?_
          refine w_iload_n dX35_signs_65 rfl rfl ?_
          obtain ⟨h7, b8, hf⟩ := Option.bind_eq_some_iff.mp hf
          refine SX35_651 b8 dX35_signs_66 rfl ?_
          refine w_aload_n dX35_signs_69 rfl rfl ?_
          refine w_iload_n dX35_signs_70 rfl rfl ?_
          obtain ⟨h9, b10, hf⟩ := Option.bind_eq_some_iff.mp hf
          refine SX35_654 b10 dX35_signs_71 rfl ?_
          cases hf
          exact w_vret dX35_signs_74 rfl rfl
        · replace hf := (if_neg (show ¬ (q5.1 = 0) from c6)).symm.trans hf
          exact (pX35_signs_b38 hd hdr hsE ih hf).to ⟨rfl, rfl, rfl, trivial⟩
def fX35_signs (N : Nat) (sE : Nat → Int32 → eH → Option (Unit × eH)) (this : Nat) (h : eH) : Option (Unit × eH) :=
  (k_ok 34 h this).bind fun _ =>
  (fX35_needExpanded N sE this h).bind fun q2 =>
  fX35_signs_b7 N sE N this (0 : Int32) q2.1 q2.2
theorem pX35_signs {w : eW} {d : Nat} {dr : Nat} (hd : dr + 7 ≤ d) (hdr : 12 ≤ dr) {N : Nat} {sE : Nat → Int32 → eH → Option (Unit × eH)} (hsE : ∀ a t0 h q, sE a t0 h = some q → wm w dr YX35_expand [.ref a, .int t0] h (e_is (e_rn c_V q))) {this : Nat} {h : eH} {q} (hf : fX35_signs N sE this h = some q) : wm w d YX35_signs [.ref this] h (e_is (e_rn c_V q)) := by
  obtain ⟨d, rfl⟩ : ∃ e, d = e + 1 := ⟨d - 1, by omega⟩
  show wp w (d + 1) YX35_signs 0 [some (.ref this), none, none] [] h _
  unfold fX35_signs at hf
  refine w_iconst dX35_signs_0 (v := 0) (by decide) ?_
  refine w_istore_n dX35_signs_1 rfl (by decide) (ls' := [some (.ref this), some (.int (0 : Int32)), none]) rfl ?_
  refine w_aload_n dX35_signs_2 rfl rfl ?_
  obtain ⟨_, b1, hf⟩ := Option.bind_eq_some_iff.mp hf
  refine x_cnI hf (e_stV (Yc := YX35_needExpanded) (ci := 34) (av := []) (st := []) dX35_signs_3 q5193 mX35_needExpanded rfl (k_ok_some b1).1 (k_ok_some b1).2) mX35_needExpanded.2.2.1 mX35_needExpanded.2.2.2.2.1 (Nat.le_of_ble_eq_true rfl) (Nat.le_of_ble_eq_true rfl) (fun q hq => pX35_needExpanded (by omega) hdr hsE hq) (fun q2 hf => ?_)
  refine w_istore_n dX35_signs_6 rfl (by decide) (ls' := [some (.ref this), some (.int (0 : Int32)), some (.int q2.1)]) rfl ?_
  exact (pX35_signs_b7 hd hdr hsE N _ _ _ _ _ hf).to ⟨rfl, rfl, rfl, trivial⟩
abbrev cX35_primitiveOf : ByteArray := prog_37_method_65_code
def yX35_primitiveOf : MethodName := ⟨RX35, "primitiveOf", "(I)I"⟩
def YX35_primitiveOf : eY := (yX35_primitiveOf, cX35_primitiveOf, 3, (Option.some FieldType.int), [])
theorem mX35_primitiveOf : e_mv YX35_primitiveOf RX35 1 := ⟨q5256, qs274, q5257, by decide, by decide +kernel, (e_sig (by decide +kernel))⟩
theorem dX35_primitiveOf_0 : decode cX35_primitiveOf 0 = .ok (.iload_n 1, 1) := dc_27 (by decide +kernel)
theorem dX35_primitiveOf_1 : decode cX35_primitiveOf 1 = .ok (.iconst (-1), 1) := dc_2 (by decide +kernel)
theorem dX35_primitiveOf_2 : decode cX35_primitiveOf 2 = .ok (.if_icmp .ne 7, 3) := dc_160 (a := 0) (b := 7) (v := 7) (by decide +kernel)
theorem dX35_primitiveOf_5 : decode cX35_primitiveOf 5 = .ok (.iconst 0, 1) := dc_3 (by decide +kernel)
theorem dX35_primitiveOf_6 : decode cX35_primitiveOf 6 = .ok (.goto 8, 3) := dc_167 (a := 0) (b := 8) (v := 8) (by decide +kernel)
theorem dX35_primitiveOf_9 : decode cX35_primitiveOf 9 = .ok (.aload_n 0, 1) := dc_42 (by decide +kernel)
theorem dX35_primitiveOf_10 : decode cX35_primitiveOf 10 = .ok (.iload_n 1, 1) := dc_27 (by decide +kernel)
theorem dX35_primitiveOf_11 : decode cX35_primitiveOf 11 = .ok (.invokevirtual 474, 3) := dc_182 (a := 1) (b := 218) (n := 474) (by decide +kernel)
theorem dX35_primitiveOf_14 : decode cX35_primitiveOf 14 = .ok (.istore_n 2, 1) := dc_61 (by decide +kernel)
theorem dX35_primitiveOf_15 : decode cX35_primitiveOf 15 = .ok (.iload_n 2, 1) := dc_28 (by decide +kernel)
theorem dX35_primitiveOf_16 : decode cX35_primitiveOf 16 = .ok (.sipush 1000, 3) := dc_17 (a := 3) (b := 232) (v := 1000) (by decide +kernel)
theorem dX35_primitiveOf_19 : decode cX35_primitiveOf 19 = .ok (.if_icmp .lt 18, 3) := dc_161 (a := 0) (b := 18) (v := 18) (by decide +kernel)
theorem dX35_primitiveOf_22 : decode cX35_primitiveOf 22 = .ok (.iload_n 2, 1) := dc_28 (by decide +kernel)
theorem dX35_primitiveOf_23 : decode cX35_primitiveOf 23 = .ok (.sipush 1096, 3) := dc_17 (a := 4) (b := 72) (v := 1096) (by decide +kernel)
theorem dX35_primitiveOf_26 : decode cX35_primitiveOf 26 = .ok (.if_icmp .ge 11, 3) := dc_162 (a := 0) (b := 11) (v := 11) (by decide +kernel)
theorem dX35_primitiveOf_29 : decode cX35_primitiveOf 29 = .ok (.iload_n 2, 1) := dc_28 (by decide +kernel)
theorem dX35_primitiveOf_30 : decode cX35_primitiveOf 30 = .ok (.sipush 1000, 3) := dc_17 (a := 3) (b := 232) (v := 1000) (by decide +kernel)
theorem dX35_primitiveOf_33 : decode cX35_primitiveOf 33 = .ok (.isub, 1) := dc_100 (by decide +kernel)
theorem dX35_primitiveOf_34 : decode cX35_primitiveOf 34 = .ok (.goto 4, 3) := dc_167 (a := 0) (b := 4) (v := 4) (by decide +kernel)
theorem dX35_primitiveOf_37 : decode cX35_primitiveOf 37 = .ok (.iconst (-1), 1) := dc_2 (by decide +kernel)
theorem dX35_primitiveOf_38 : decode cX35_primitiveOf 38 = .ok (.ireturn, 1) := dc_172 (by decide +kernel)
def fX35_primitiveOf_b38 (s0 : Int32) (h : eH) : Option (Int32 × eH) :=
  some (s0, h)
theorem pX35_primitiveOf_b38 {w : eW} {d : Nat} (hd : 3 ≤ d + 1) {s0 : Int32} {h : eH} {q} (hf : fX35_primitiveOf_b38 s0 h = some q) : wp w (d + 1) YX35_primitiveOf 38 [none, none, none] [.int s0] h (e_is (e_rn c_I q)) := by
  unfold fX35_primitiveOf_b38 at hf
  cases hf
  exact w_iret dX35_primitiveOf_38 rfl rfl rfl
def fX35_primitiveOf_b37  (h : eH) : Option (Int32 × eH) :=
  fX35_primitiveOf_b38 (-1 : Int32) h
theorem pX35_primitiveOf_b37 {w : eW} {d : Nat} (hd : 3 ≤ d + 1)  {h : eH} {q} (hf : fX35_primitiveOf_b37  h = some q) : wp w (d + 1) YX35_primitiveOf 37 [none, none, none] [] h (e_is (e_rn c_I q)) := by
  unfold fX35_primitiveOf_b37 at hf
  refine w_iconst dX35_primitiveOf_37 (v := -1) (by decide) ?_
  exact (pX35_primitiveOf_b38 hd hf).to trivial
def fX35_primitiveOf_b14 (s0 : Int32) (h : eH) : Option (Int32 × eH) :=
  if s0 < (1000 : Int32) then
    fX35_primitiveOf_b37 h
  else
    if (1096 : Int32) ≤ s0 then
      fX35_primitiveOf_b37 h
    else
      fX35_primitiveOf_b38 (s0 - (1000 : Int32)) h
theorem pX35_primitiveOf_b14 {w : eW} {d : Nat} (hd : 3 ≤ d + 1) {s0 : Int32} {h : eH} {q} (hf : fX35_primitiveOf_b14 s0 h = some q) : wp w (d + 1) YX35_primitiveOf 14 [none, none, none] [.int s0] h (e_is (e_rn c_I q)) := by
  unfold fX35_primitiveOf_b14 at hf
  refine w_istore_n dX35_primitiveOf_14 rfl (by decide) (ls' := [none, none, some (.int s0)]) rfl ?_
  refine w_iload_n dX35_primitiveOf_15 rfl rfl ?_
  refine w_sipush dX35_primitiveOf_16 (v := 1000) (by decide) ?_
  refine w_icmp_lt 37 dX35_primitiveOf_19 (by decide) (fun c1 => ?_) (fun c1 => ?_)
  · replace hf := (if_pos (show s0 < (1000 : Int32) from c1)).symm.trans hf
    exact (pX35_primitiveOf_b37 hd hf).to trivial
  · replace hf := (if_neg (show ¬ (s0 < (1000 : Int32)) from c1)).symm.trans hf
    refine w_iload_n dX35_primitiveOf_22 rfl rfl ?_
    refine w_sipush dX35_primitiveOf_23 (v := 1096) (by decide) ?_
    refine w_icmp_ge 37 dX35_primitiveOf_26 (by decide) (fun c2 => ?_) (fun c2 => ?_)
    · replace hf := (if_pos (show (1096 : Int32) ≤ s0 from c2)).symm.trans hf
      exact (pX35_primitiveOf_b37 hd hf).to trivial
    · replace hf := (if_neg (show ¬ ((1096 : Int32) ≤ s0) from c2)).symm.trans hf
      refine w_iload_n dX35_primitiveOf_29 rfl rfl ?_
      refine w_sipush dX35_primitiveOf_30 (v := 1000) (by decide) ?_
      refine w_isub dX35_primitiveOf_33 ?_
      refine w_goto 38 dX35_primitiveOf_34 (by decide) ?_
      exact (pX35_primitiveOf_b38 hd hf).to trivial
def fX35_primitiveOf (this : Nat) (p0 : Int32) (h : eH) : Option (Int32 × eH) :=
  if ¬ p0 = (-1 : Int32) then
    (k_ok 34 h this).bind fun _ =>
    (fX35_meaning this p0 h).bind fun q3 =>
    fX35_primitiveOf_b14 q3.1 q3.2
  else
    fX35_primitiveOf_b14 (0 : Int32) h
theorem pX35_primitiveOf {w : eW} {d : Nat} (hd : 3 ≤ d) {this : Nat} {p0 : Int32} {h : eH} {q} (hf : fX35_primitiveOf this p0 h = some q) : wm w d YX35_primitiveOf [.ref this, .int p0] h (e_is (e_rn c_I q)) := by
  obtain ⟨d, rfl⟩ : ∃ e, d = e + 1 := ⟨d - 1, by omega⟩
  show wp w (d + 1) YX35_primitiveOf 0 [some (.ref this), some (.int p0), none] [] h _
  unfold fX35_primitiveOf at hf
  refine w_iload_n dX35_primitiveOf_0 rfl rfl ?_
  refine w_iconst dX35_primitiveOf_1 (v := -1) (by decide) ?_
  refine w_icmp_ne 9 dX35_primitiveOf_2 (by decide) (fun c1 => ?_) (fun c1 => ?_)
  · replace hf := (if_pos (show ¬ p0 = (-1 : Int32) from c1)).symm.trans hf
    refine w_aload_n dX35_primitiveOf_9 rfl rfl ?_
    refine w_iload_n dX35_primitiveOf_10 rfl rfl ?_
    obtain ⟨_, b2, hf⟩ := Option.bind_eq_some_iff.mp hf
    refine x_cnI hf (e_stV (Yc := YX35_meaning) (ci := 34) (av := [.int p0]) (st := []) dX35_primitiveOf_11 q5130 mX35_meaning rfl (k_ok_some b2).1 (k_ok_some b2).2) mX35_meaning.2.2.1 mX35_meaning.2.2.2.2.1 (Nat.le_of_ble_eq_true rfl) (Nat.le_of_ble_eq_true rfl) (fun q hq => pX35_meaning (by omega) hq) (fun q3 hf => ?_)
    exact (pX35_primitiveOf_b14 hd hf).to trivial
  · replace hf := (if_neg (show ¬ (¬ p0 = (-1 : Int32)) from (fun z => z c1))).symm.trans hf
    refine w_iconst dX35_primitiveOf_5 (v := 0) (by decide) ?_
    refine w_goto 14 dX35_primitiveOf_6 (by decide) ?_
    exact (pX35_primitiveOf_b14 hd hf).to trivial
abbrev cX35_isLength : ByteArray := prog_37_method_67_code
def yX35_isLength : MethodName := ⟨RX35, "isLength", "(I)Z"⟩
def YX35_isLength : eY := (yX35_isLength, cX35_isLength, 1, (Option.some FieldType.boolean), [])
theorem mX35_isLength : e_ms YX35_isLength 1 := ⟨q5284, q466, q5285, by decide, by decide +kernel, (e_sig (by decide +kernel))⟩
theorem dX35_isLength_0 : decode cX35_isLength 0 = .ok (.iload_n 0, 1) := dc_26 (by decide +kernel)
theorem dX35_isLength_1 : decode cX35_isLength 1 = .ok (.bipush 42, 2) := dc_16 (a := 42) (v := 42) (by decide +kernel)
theorem dX35_isLength_3 : decode cX35_isLength 3 = .ok (.if_icmp .eq 15, 3) := dc_159 (a := 0) (b := 15) (v := 15) (by decide +kernel)
theorem dX35_isLength_6 : decode cX35_isLength 6 = .ok (.iload_n 0, 1) := dc_26 (by decide +kernel)
theorem dX35_isLength_7 : decode cX35_isLength 7 = .ok (.bipush 83, 2) := dc_16 (a := 83) (v := 83) (by decide +kernel)
theorem dX35_isLength_9 : decode cX35_isLength 9 = .ok (.if_icmp .lt 13, 3) := dc_161 (a := 0) (b := 13) (v := 13) (by decide +kernel)
theorem dX35_isLength_12 : decode cX35_isLength 12 = .ok (.iload_n 0, 1) := dc_26 (by decide +kernel)
theorem dX35_isLength_13 : decode cX35_isLength 13 = .ok (.bipush 89, 2) := dc_16 (a := 89) (v := 89) (by decide +kernel)
theorem dX35_isLength_15 : decode cX35_isLength 15 = .ok (.if_icmp .ge 7, 3) := dc_162 (a := 0) (b := 7) (v := 7) (by decide +kernel)
theorem dX35_isLength_18 : decode cX35_isLength 18 = .ok (.iconst 1, 1) := dc_4 (by decide +kernel)
theorem dX35_isLength_19 : decode cX35_isLength 19 = .ok (.goto 4, 3) := dc_167 (a := 0) (b := 4) (v := 4) (by decide +kernel)
theorem dX35_isLength_22 : decode cX35_isLength 22 = .ok (.iconst 0, 1) := dc_3 (by decide +kernel)
theorem dX35_isLength_23 : decode cX35_isLength 23 = .ok (.ireturn, 1) := dc_172 (by decide +kernel)
def fX35_isLength_b23 (s0 : Int32) (h : eH) : Option (Int32 × eH) :=
  z_r s0 (s0, h)
theorem pX35_isLength_b23 {w : eW} {d : Nat} (hd : 0 ≤ d) {s0 : Int32} {h : eH} {q} (hf : fX35_isLength_b23 s0 h = some q) : wp w d YX35_isLength 23 [none] [.int s0] h (e_is (e_rn c_I q)) := by
  unfold fX35_isLength_b23 at hf
  obtain ⟨b1, rfl⟩ := z_r_some hf
  exact w_iret dX35_isLength_23 rfl b1 rfl
def fX35_isLength_b18  (h : eH) : Option (Int32 × eH) :=
  fX35_isLength_b23 (1 : Int32) h
theorem pX35_isLength_b18 {w : eW} {d : Nat} (hd : 0 ≤ d)  {h : eH} {q} (hf : fX35_isLength_b18  h = some q) : wp w d YX35_isLength 18 [none] [] h (e_is (e_rn c_I q)) := by
  unfold fX35_isLength_b18 at hf
  refine w_iconst dX35_isLength_18 (v := 1) (by decide) ?_
  refine w_goto 23 dX35_isLength_19 (by decide) ?_
  exact (pX35_isLength_b23 hd hf).to trivial
def fX35_isLength_b22  (h : eH) : Option (Int32 × eH) :=
  fX35_isLength_b23 (0 : Int32) h
theorem pX35_isLength_b22 {w : eW} {d : Nat} (hd : 0 ≤ d)  {h : eH} {q} (hf : fX35_isLength_b22  h = some q) : wp w d YX35_isLength 22 [none] [] h (e_is (e_rn c_I q)) := by
  unfold fX35_isLength_b22 at hf
  refine w_iconst dX35_isLength_22 (v := 0) (by decide) ?_
  exact (pX35_isLength_b23 hd hf).to trivial
def fX35_isLength (p0 : Int32) (h : eH) : Option (Int32 × eH) :=
  if p0 = (42 : Int32) then
    fX35_isLength_b18 h
  else
    if p0 < (83 : Int32) then
      fX35_isLength_b22 h
    else
      if (89 : Int32) ≤ p0 then
        fX35_isLength_b22 h
      else
        fX35_isLength_b18 h
theorem pX35_isLength {w : eW} {d : Nat} (hd : 0 ≤ d) {p0 : Int32} {h : eH} {q} (hf : fX35_isLength p0 h = some q) : wm w d YX35_isLength [.int p0] h (e_is (e_rn c_I q)) := by
  show wp w d YX35_isLength 0 [some (.int p0)] [] h _
  unfold fX35_isLength at hf
  refine w_iload_n dX35_isLength_0 rfl rfl ?_
  refine w_bipush dX35_isLength_1 (v := 42) (by decide) ?_
  refine w_icmp_eq 18 dX35_isLength_3 (by decide) (fun c1 => ?_) (fun c1 => ?_)
  · replace hf := (if_pos (show p0 = (42 : Int32) from c1)).symm.trans hf
    exact (pX35_isLength_b18 hd hf).to trivial
  · replace hf := (if_neg (show ¬ (p0 = (42 : Int32)) from c1)).symm.trans hf
    refine w_iload_n dX35_isLength_6 rfl rfl ?_
    refine w_bipush dX35_isLength_7 (v := 83) (by decide) ?_
    refine w_icmp_lt 22 dX35_isLength_9 (by decide) (fun c2 => ?_) (fun c2 => ?_)
    · replace hf := (if_pos (show p0 < (83 : Int32) from c2)).symm.trans hf
      exact (pX35_isLength_b22 hd hf).to trivial
    · replace hf := (if_neg (show ¬ (p0 < (83 : Int32)) from c2)).symm.trans hf
      refine w_iload_n dX35_isLength_12 rfl rfl ?_
      refine w_bipush dX35_isLength_13 (v := 89) (by decide) ?_
      refine w_icmp_ge 22 dX35_isLength_15 (by decide) (fun c3 => ?_) (fun c3 => ?_)
      · replace hf := (if_pos (show (89 : Int32) ≤ p0 from c3)).symm.trans hf
        exact (pX35_isLength_b22 hd hf).to trivial
      · replace hf := (if_neg (show ¬ ((89 : Int32) ≤ p0) from c3)).symm.trans hf
        exact (pX35_isLength_b18 hd hf).to trivial
abbrev cX35_isOfBox : ByteArray := prog_37_method_69_code
def yX35_isOfBox : MethodName := ⟨RX35, "isOfBox", "(I)Z"⟩
def YX35_isOfBox : eY := (yX35_isOfBox, cX35_isOfBox, 1, (Option.some FieldType.boolean), [])
theorem mX35_isOfBox : e_ms YX35_isOfBox 1 := ⟨q5287, q466, q5288, by decide, by decide +kernel, (e_sig (by decide +kernel))⟩
theorem dX35_isOfBox_0 : decode cX35_isOfBox 0 = .ok (.iload_n 0, 1) := dc_26 (by decide +kernel)
theorem dX35_isOfBox_1 : decode cX35_isOfBox 1 = .ok (.bipush 44, 2) := dc_16 (a := 44) (v := 44) (by decide +kernel)
theorem dX35_isOfBox_3 : decode cX35_isOfBox 3 = .ok (.if_icmp .eq 15, 3) := dc_159 (a := 0) (b := 15) (v := 15) (by decide +kernel)
theorem dX35_isOfBox_6 : decode cX35_isOfBox 6 = .ok (.iload_n 0, 1) := dc_26 (by decide +kernel)
theorem dX35_isOfBox_7 : decode cX35_isOfBox 7 = .ok (.bipush 45, 2) := dc_16 (a := 45) (v := 45) (by decide +kernel)
theorem dX35_isOfBox_9 : decode cX35_isOfBox 9 = .ok (.if_icmp .eq 9, 3) := dc_159 (a := 0) (b := 9) (v := 9) (by decide +kernel)
theorem dX35_isOfBox_12 : decode cX35_isOfBox 12 = .ok (.iload_n 0, 1) := dc_26 (by decide +kernel)
theorem dX35_isOfBox_13 : decode cX35_isOfBox 13 = .ok (.bipush 46, 2) := dc_16 (a := 46) (v := 46) (by decide +kernel)
theorem dX35_isOfBox_15 : decode cX35_isOfBox 15 = .ok (.if_icmp .ne 7, 3) := dc_160 (a := 0) (b := 7) (v := 7) (by decide +kernel)
theorem dX35_isOfBox_18 : decode cX35_isOfBox 18 = .ok (.iconst 1, 1) := dc_4 (by decide +kernel)
theorem dX35_isOfBox_19 : decode cX35_isOfBox 19 = .ok (.goto 4, 3) := dc_167 (a := 0) (b := 4) (v := 4) (by decide +kernel)
theorem dX35_isOfBox_22 : decode cX35_isOfBox 22 = .ok (.iconst 0, 1) := dc_3 (by decide +kernel)
theorem dX35_isOfBox_23 : decode cX35_isOfBox 23 = .ok (.ireturn, 1) := dc_172 (by decide +kernel)
def fX35_isOfBox_b23 (s0 : Int32) (h : eH) : Option (Int32 × eH) :=
  z_r s0 (s0, h)
theorem pX35_isOfBox_b23 {w : eW} {d : Nat} (hd : 0 ≤ d) {s0 : Int32} {h : eH} {q} (hf : fX35_isOfBox_b23 s0 h = some q) : wp w d YX35_isOfBox 23 [none] [.int s0] h (e_is (e_rn c_I q)) := by
  unfold fX35_isOfBox_b23 at hf
  obtain ⟨b1, rfl⟩ := z_r_some hf
  exact w_iret dX35_isOfBox_23 rfl b1 rfl
def fX35_isOfBox_b18  (h : eH) : Option (Int32 × eH) :=
  fX35_isOfBox_b23 (1 : Int32) h
theorem pX35_isOfBox_b18 {w : eW} {d : Nat} (hd : 0 ≤ d)  {h : eH} {q} (hf : fX35_isOfBox_b18  h = some q) : wp w d YX35_isOfBox 18 [none] [] h (e_is (e_rn c_I q)) := by
  unfold fX35_isOfBox_b18 at hf
  refine w_iconst dX35_isOfBox_18 (v := 1) (by decide) ?_
  refine w_goto 23 dX35_isOfBox_19 (by decide) ?_
  exact (pX35_isOfBox_b23 hd hf).to trivial
def fX35_isOfBox (p0 : Int32) (h : eH) : Option (Int32 × eH) :=
  if p0 = (44 : Int32) then
    fX35_isOfBox_b18 h
  else
    if p0 = (45 : Int32) then
      fX35_isOfBox_b18 h
    else
      if ¬ p0 = (46 : Int32) then
        fX35_isOfBox_b23 (0 : Int32) h
      else
        fX35_isOfBox_b18 h
theorem pX35_isOfBox {w : eW} {d : Nat} (hd : 0 ≤ d) {p0 : Int32} {h : eH} {q} (hf : fX35_isOfBox p0 h = some q) : wm w d YX35_isOfBox [.int p0] h (e_is (e_rn c_I q)) := by
  show wp w d YX35_isOfBox 0 [some (.int p0)] [] h _
  unfold fX35_isOfBox at hf
  refine w_iload_n dX35_isOfBox_0 rfl rfl ?_
  refine w_bipush dX35_isOfBox_1 (v := 44) (by decide) ?_
  refine w_icmp_eq 18 dX35_isOfBox_3 (by decide) (fun c1 => ?_) (fun c1 => ?_)
  · replace hf := (if_pos (show p0 = (44 : Int32) from c1)).symm.trans hf
    exact (pX35_isOfBox_b18 hd hf).to trivial
  · replace hf := (if_neg (show ¬ (p0 = (44 : Int32)) from c1)).symm.trans hf
    refine w_iload_n dX35_isOfBox_6 rfl rfl ?_
    refine w_bipush dX35_isOfBox_7 (v := 45) (by decide) ?_
    refine w_icmp_eq 18 dX35_isOfBox_9 (by decide) (fun c2 => ?_) (fun c2 => ?_)
    · replace hf := (if_pos (show p0 = (45 : Int32) from c2)).symm.trans hf
      exact (pX35_isOfBox_b18 hd hf).to trivial
    · replace hf := (if_neg (show ¬ (p0 = (45 : Int32)) from c2)).symm.trans hf
      refine w_iload_n dX35_isOfBox_12 rfl rfl ?_
      refine w_bipush dX35_isOfBox_13 (v := 46) (by decide) ?_
      refine w_icmp_ne 22 dX35_isOfBox_15 (by decide) (fun c3 => ?_) (fun c3 => ?_)
      · replace hf := (if_pos (show ¬ p0 = (46 : Int32) from c3)).symm.trans hf
        refine w_iconst dX35_isOfBox_22 (v := 0) (by decide) ?_
        exact (pX35_isOfBox_b23 hd hf).to trivial
      · replace hf := (if_neg (show ¬ (¬ p0 = (46 : Int32)) from (fun z => z c3))).symm.trans hf
        exact (pX35_isOfBox_b18 hd hf).to trivial
abbrev cX35_hasLength : ByteArray := prog_37_method_70_code
def yX35_hasLength : MethodName := ⟨RX35, "hasLength", "(I)Z"⟩
def YX35_hasLength : eY := (yX35_hasLength, cX35_hasLength, 3, (Option.some FieldType.boolean), [])
theorem mX35_hasLength : e_mv YX35_hasLength RX35 1 := ⟨q5281, qs279, q5282, by decide, by decide +kernel, (e_sig (by decide +kernel))⟩
theorem dX35_hasLength_0 : decode cX35_hasLength 0 = .ok (.aload_n 0, 1) := dc_42 (by decide +kernel)
theorem dX35_hasLength_1 : decode cX35_hasLength 1 = .ok (.iload_n 1, 1) := dc_27 (by decide +kernel)
theorem dX35_hasLength_2 : decode cX35_hasLength 2 = .ok (.invokevirtual 621, 3) := dc_182 (a := 2) (b := 109) (n := 621) (by decide +kernel)
theorem dX35_hasLength_5 : decode cX35_hasLength 5 = .ok (.istore_n 2, 1) := dc_61 (by decide +kernel)
theorem dX35_hasLength_6 : decode cX35_hasLength 6 = .ok (.iload_n 2, 1) := dc_28 (by decide +kernel)
theorem dX35_hasLength_7 : decode cX35_hasLength 7 = .ok (.invokestatic 624, 3) := dc_184 (a := 2) (b := 112) (n := 624) (by decide +kernel)
theorem dX35_hasLength_10 : decode cX35_hasLength 10 = .ok (.ifCond .ne 10, 3) := dc_154 (a := 0) (b := 10) (v := 10) (by decide +kernel)
theorem dX35_hasLength_13 : decode cX35_hasLength 13 = .ok (.iload_n 2, 1) := dc_28 (by decide +kernel)
theorem dX35_hasLength_14 : decode cX35_hasLength 14 = .ok (.invokestatic 627, 3) := dc_184 (a := 2) (b := 115) (n := 627) (by decide +kernel)
theorem dX35_hasLength_17 : decode cX35_hasLength 17 = .ok (.ifCond .eq 7, 3) := dc_153 (a := 0) (b := 7) (v := 7) (by decide +kernel)
theorem dX35_hasLength_20 : decode cX35_hasLength 20 = .ok (.iconst 1, 1) := dc_4 (by decide +kernel)
theorem dX35_hasLength_21 : decode cX35_hasLength 21 = .ok (.goto 4, 3) := dc_167 (a := 0) (b := 4) (v := 4) (by decide +kernel)
theorem dX35_hasLength_24 : decode cX35_hasLength 24 = .ok (.iconst 0, 1) := dc_3 (by decide +kernel)
theorem dX35_hasLength_25 : decode cX35_hasLength 25 = .ok (.ireturn, 1) := dc_172 (by decide +kernel)
def fX35_hasLength_b25 (s0 : Int32) (h : eH) : Option (Int32 × eH) :=
  z_r s0 (s0, h)
theorem pX35_hasLength_b25 {w : eW} {d : Nat} (hd : 4 ≤ d + 1) {s0 : Int32} {h : eH} {q} (hf : fX35_hasLength_b25 s0 h = some q) : wp w (d + 1) YX35_hasLength 25 [none, none, none] [.int s0] h (e_is (e_rn c_I q)) := by
  unfold fX35_hasLength_b25 at hf
  obtain ⟨b1, rfl⟩ := z_r_some hf
  exact w_iret dX35_hasLength_25 rfl b1 rfl
def fX35_hasLength_b20  (h : eH) : Option (Int32 × eH) :=
  fX35_hasLength_b25 (1 : Int32) h
theorem pX35_hasLength_b20 {w : eW} {d : Nat} (hd : 4 ≤ d + 1)  {h : eH} {q} (hf : fX35_hasLength_b20  h = some q) : wp w (d + 1) YX35_hasLength 20 [none, none, none] [] h (e_is (e_rn c_I q)) := by
  unfold fX35_hasLength_b20 at hf
  refine w_iconst dX35_hasLength_20 (v := 1) (by decide) ?_
  refine w_goto 25 dX35_hasLength_21 (by decide) ?_
  exact (pX35_hasLength_b25 hd hf).to trivial
def fX35_hasLength (this : Nat) (p0 : Int32) (h : eH) : Option (Int32 × eH) :=
  (k_ok 34 h this).bind fun _ =>
  (fX35_primitiveOf this p0 h).bind fun q2 =>
  (fX35_isLength q2.1 q2.2).bind fun q3 =>
  if ¬ q3.1 = 0 then
    fX35_hasLength_b20 q3.2
  else
    (fX35_isOfBox q2.1 q3.2).bind fun q5 =>
    if q5.1 = 0 then
      fX35_hasLength_b25 (0 : Int32) q5.2
    else
      fX35_hasLength_b20 q5.2
theorem pX35_hasLength {w : eW} {d : Nat} (hd : 4 ≤ d) {this : Nat} {p0 : Int32} {h : eH} {q} (hf : fX35_hasLength this p0 h = some q) : wm w d YX35_hasLength [.ref this, .int p0] h (e_is (e_rn c_I q)) := by
  obtain ⟨d, rfl⟩ : ∃ e, d = e + 1 := ⟨d - 1, by omega⟩
  show wp w (d + 1) YX35_hasLength 0 [some (.ref this), some (.int p0), none] [] h _
  unfold fX35_hasLength at hf
  refine w_aload_n dX35_hasLength_0 rfl rfl ?_
  refine w_iload_n dX35_hasLength_1 rfl rfl ?_
  obtain ⟨_, b1, hf⟩ := Option.bind_eq_some_iff.mp hf
  refine x_cnI hf (e_stV (Yc := YX35_primitiveOf) (ci := 34) (av := [.int p0]) (st := []) dX35_hasLength_2 q5254 mX35_primitiveOf rfl (k_ok_some b1).1 (k_ok_some b1).2) mX35_primitiveOf.2.2.1 mX35_primitiveOf.2.2.2.2.1 (Nat.le_of_ble_eq_true rfl) (Nat.le_of_ble_eq_true rfl) (fun q hq => pX35_primitiveOf (by omega) hq) (fun q2 hf => ?_)
  refine w_istore_n dX35_hasLength_5 rfl (by decide) (ls' := [some (.ref this), some (.int p0), some (.int q2.1)]) rfl ?_
  refine w_iload_n dX35_hasLength_6 rfl rfl ?_
  refine x_cnI hf (e_stS (Yc := YX35_isLength) (av := [.int q2.1]) (st := []) dX35_hasLength_7 q5283 mX35_isLength) mX35_isLength.2.2.1 mX35_isLength.2.2.2.2.1 (Nat.le_of_ble_eq_true rfl) (Nat.le_of_ble_eq_true rfl) (fun q hq => pX35_isLength (by omega) hq) (fun q3 hf => ?_)
  refine w_if_ne 20 dX35_hasLength_10 (by decide) (fun c4 => ?_) (fun c4 => ?_)
  · replace hf := (if_pos (show ¬ q3.1 = 0 from c4)).symm.trans hf
    exact (pX35_hasLength_b20 hd hf).to trivial
  · replace hf := (if_neg (show ¬ (¬ q3.1 = 0) from (fun z => z c4))).symm.trans hf
    refine w_iload_n dX35_hasLength_13 rfl rfl ?_
    refine x_cnI hf (e_stS (Yc := YX35_isOfBox) (av := [.int q2.1]) (st := []) dX35_hasLength_14 q5286 mX35_isOfBox) mX35_isOfBox.2.2.1 mX35_isOfBox.2.2.2.2.1 (Nat.le_of_ble_eq_true rfl) (Nat.le_of_ble_eq_true rfl) (fun q hq => pX35_isOfBox (by omega) hq) (fun q5 hf => ?_)
    refine w_if_eq 24 dX35_hasLength_17 (by decide) (fun c6 => ?_) (fun c6 => ?_)
    · replace hf := (if_pos (show q5.1 = 0 from c6)).symm.trans hf
      refine w_iconst dX35_hasLength_24 (v := 0) (by decide) ?_
      exact (pX35_hasLength_b25 hd hf).to trivial
    · replace hf := (if_neg (show ¬ (q5.1 = 0) from c6)).symm.trans hf
      exact (pX35_hasLength_b20 hd hf).to trivial
abbrev cX35_isGlue : ByteArray := prog_37_method_68_code
def yX35_isGlue : MethodName := ⟨RX35, "isGlue", "(I)Z"⟩
def YX35_isGlue : eY := (yX35_isGlue, cX35_isGlue, 1, (Option.some FieldType.boolean), [])
theorem mX35_isGlue : e_ms YX35_isGlue 1 := ⟨q5294, q466, q5295, by decide, by decide +kernel, (e_sig (by decide +kernel))⟩
theorem dX35_isGlue_0 : decode cX35_isGlue 0 = .ok (.iload_n 0, 1) := dc_26 (by decide +kernel)
theorem dX35_isGlue_1 : decode cX35_isGlue 1 = .ok (.bipush 43, 2) := dc_16 (a := 43) (v := 43) (by decide +kernel)
theorem dX35_isGlue_3 : decode cX35_isGlue 3 = .ok (.if_icmp .eq 9, 3) := dc_159 (a := 0) (b := 9) (v := 9) (by decide +kernel)
theorem dX35_isGlue_6 : decode cX35_isGlue 6 = .ok (.iload_n 0, 1) := dc_26 (by decide +kernel)
theorem dX35_isGlue_7 : decode cX35_isGlue 7 = .ok (.bipush 89, 2) := dc_16 (a := 89) (v := 89) (by decide +kernel)
theorem dX35_isGlue_9 : decode cX35_isGlue 9 = .ok (.if_icmp .lt 7, 3) := dc_161 (a := 0) (b := 7) (v := 7) (by decide +kernel)
theorem dX35_isGlue_12 : decode cX35_isGlue 12 = .ok (.iconst 1, 1) := dc_4 (by decide +kernel)
theorem dX35_isGlue_13 : decode cX35_isGlue 13 = .ok (.goto 4, 3) := dc_167 (a := 0) (b := 4) (v := 4) (by decide +kernel)
theorem dX35_isGlue_16 : decode cX35_isGlue 16 = .ok (.iconst 0, 1) := dc_3 (by decide +kernel)
theorem dX35_isGlue_17 : decode cX35_isGlue 17 = .ok (.ireturn, 1) := dc_172 (by decide +kernel)
def fX35_isGlue_b17 (s0 : Int32) (h : eH) : Option (Int32 × eH) :=
  z_r s0 (s0, h)
theorem pX35_isGlue_b17 {w : eW} {d : Nat} (hd : 0 ≤ d) {s0 : Int32} {h : eH} {q} (hf : fX35_isGlue_b17 s0 h = some q) : wp w d YX35_isGlue 17 [none] [.int s0] h (e_is (e_rn c_I q)) := by
  unfold fX35_isGlue_b17 at hf
  obtain ⟨b1, rfl⟩ := z_r_some hf
  exact w_iret dX35_isGlue_17 rfl b1 rfl
def fX35_isGlue_b12  (h : eH) : Option (Int32 × eH) :=
  fX35_isGlue_b17 (1 : Int32) h
theorem pX35_isGlue_b12 {w : eW} {d : Nat} (hd : 0 ≤ d)  {h : eH} {q} (hf : fX35_isGlue_b12  h = some q) : wp w d YX35_isGlue 12 [none] [] h (e_is (e_rn c_I q)) := by
  unfold fX35_isGlue_b12 at hf
  refine w_iconst dX35_isGlue_12 (v := 1) (by decide) ?_
  refine w_goto 17 dX35_isGlue_13 (by decide) ?_
  exact (pX35_isGlue_b17 hd hf).to trivial
def fX35_isGlue (p0 : Int32) (h : eH) : Option (Int32 × eH) :=
  if p0 = (43 : Int32) then
    fX35_isGlue_b12 h
  else
    if p0 < (89 : Int32) then
      fX35_isGlue_b17 (0 : Int32) h
    else
      fX35_isGlue_b12 h
theorem pX35_isGlue {w : eW} {d : Nat} (hd : 0 ≤ d) {p0 : Int32} {h : eH} {q} (hf : fX35_isGlue p0 h = some q) : wm w d YX35_isGlue [.int p0] h (e_is (e_rn c_I q)) := by
  show wp w d YX35_isGlue 0 [some (.int p0)] [] h _
  unfold fX35_isGlue at hf
  refine w_iload_n dX35_isGlue_0 rfl rfl ?_
  refine w_bipush dX35_isGlue_1 (v := 43) (by decide) ?_
  refine w_icmp_eq 12 dX35_isGlue_3 (by decide) (fun c1 => ?_) (fun c1 => ?_)
  · replace hf := (if_pos (show p0 = (43 : Int32) from c1)).symm.trans hf
    exact (pX35_isGlue_b12 hd hf).to trivial
  · replace hf := (if_neg (show ¬ (p0 = (43 : Int32)) from c1)).symm.trans hf
    refine w_iload_n dX35_isGlue_6 rfl rfl ?_
    refine w_bipush dX35_isGlue_7 (v := 89) (by decide) ?_
    refine w_icmp_lt 16 dX35_isGlue_9 (by decide) (fun c2 => ?_) (fun c2 => ?_)
    · replace hf := (if_pos (show p0 < (89 : Int32) from c2)).symm.trans hf
      refine w_iconst dX35_isGlue_16 (v := 0) (by decide) ?_
      exact (pX35_isGlue_b17 hd hf).to trivial
    · replace hf := (if_neg (show ¬ (p0 < (89 : Int32)) from c2)).symm.trans hf
      exact (pX35_isGlue_b12 hd hf).to trivial
abbrev cX35_hasGlue : ByteArray := prog_37_method_71_code
def yX35_hasGlue : MethodName := ⟨RX35, "hasGlue", "(I)Z"⟩
def YX35_hasGlue : eY := (yX35_hasGlue, cX35_hasGlue, 2, (Option.some FieldType.boolean), [])
theorem mX35_hasGlue : e_mv YX35_hasGlue RX35 1 := ⟨q5291, qs280, q5292, by decide, by decide +kernel, (e_sig (by decide +kernel))⟩
theorem dX35_hasGlue_0 : decode cX35_hasGlue 0 = .ok (.aload_n 0, 1) := dc_42 (by decide +kernel)
theorem dX35_hasGlue_1 : decode cX35_hasGlue 1 = .ok (.iload_n 1, 1) := dc_27 (by decide +kernel)
theorem dX35_hasGlue_2 : decode cX35_hasGlue 2 = .ok (.invokevirtual 621, 3) := dc_182 (a := 2) (b := 109) (n := 621) (by decide +kernel)
theorem dX35_hasGlue_5 : decode cX35_hasGlue 5 = .ok (.invokestatic 630, 3) := dc_184 (a := 2) (b := 118) (n := 630) (by decide +kernel)
theorem dX35_hasGlue_8 : decode cX35_hasGlue 8 = .ok (.ireturn, 1) := dc_172 (by decide +kernel)
def fX35_hasGlue (this : Nat) (p0 : Int32) (h : eH) : Option (Int32 × eH) :=
  (k_ok 34 h this).bind fun _ =>
  (fX35_primitiveOf this p0 h).bind fun q2 =>
  (fX35_isGlue q2.1 q2.2).bind fun q3 =>
  z_r q3.1 (q3.1, q3.2)
theorem pX35_hasGlue {w : eW} {d : Nat} (hd : 4 ≤ d) {this : Nat} {p0 : Int32} {h : eH} {q} (hf : fX35_hasGlue this p0 h = some q) : wm w d YX35_hasGlue [.ref this, .int p0] h (e_is (e_rn c_I q)) := by
  obtain ⟨d, rfl⟩ : ∃ e, d = e + 1 := ⟨d - 1, by omega⟩
  show wp w (d + 1) YX35_hasGlue 0 [some (.ref this), some (.int p0)] [] h _
  unfold fX35_hasGlue at hf
  refine w_aload_n dX35_hasGlue_0 rfl rfl ?_
  refine w_iload_n dX35_hasGlue_1 rfl rfl ?_
  obtain ⟨_, b1, hf⟩ := Option.bind_eq_some_iff.mp hf
  refine x_cnI hf (e_stV (Yc := YX35_primitiveOf) (ci := 34) (av := [.int p0]) (st := []) dX35_hasGlue_2 q5254 mX35_primitiveOf rfl (k_ok_some b1).1 (k_ok_some b1).2) mX35_primitiveOf.2.2.1 mX35_primitiveOf.2.2.2.2.1 (Nat.le_of_ble_eq_true rfl) (Nat.le_of_ble_eq_true rfl) (fun q hq => pX35_primitiveOf (by omega) hq) (fun q2 hf => ?_)
  refine x_cnI hf (e_stS (Yc := YX35_isGlue) (av := [.int q2.1]) (st := []) dX35_hasGlue_5 q5293 mX35_isGlue) mX35_isGlue.2.2.1 mX35_isGlue.2.2.2.2.1 (Nat.le_of_ble_eq_true rfl) (Nat.le_of_ble_eq_true rfl) (fun q hq => pX35_isGlue (by omega) hq) (fun q3 hf => ?_)
  obtain ⟨b4, rfl⟩ := z_r_some hf
  exact w_iret dX35_hasGlue_8 rfl b4 rfl
abbrev cX35_lengthOf : ByteArray := prog_37_method_77_code
def yX35_lengthOf : MethodName := ⟨RX35, "lengthOf", "(I)I"⟩
def YX35_lengthOf : eY := (yX35_lengthOf, cX35_lengthOf, 4, (Option.some FieldType.int), [])
theorem mX35_lengthOf : e_mv YX35_lengthOf RX35 1 := ⟨q5298, qs281, q5299, by decide, by decide +kernel, (e_sig (by decide +kernel))⟩
theorem dX35_lengthOf_0 : decode cX35_lengthOf 0 = .ok (.aload_n 0, 1) := dc_42 (by decide +kernel)
theorem dX35_lengthOf_1 : decode cX35_lengthOf 1 = .ok (.iload_n 1, 1) := dc_27 (by decide +kernel)
theorem dX35_lengthOf_2 : decode cX35_lengthOf 2 = .ok (.invokevirtual 621, 3) := dc_182 (a := 2) (b := 109) (n := 621) (by decide +kernel)
theorem dX35_lengthOf_5 : decode cX35_lengthOf 5 = .ok (.istore_n 2, 1) := dc_61 (by decide +kernel)
theorem dX35_lengthOf_6 : decode cX35_lengthOf 6 = .ok (.iload_n 2, 1) := dc_28 (by decide +kernel)
theorem dX35_lengthOf_7 : decode cX35_lengthOf 7 = .ok (.invokestatic 627, 3) := dc_184 (a := 2) (b := 115) (n := 627) (by decide +kernel)
theorem dX35_lengthOf_10 : decode cX35_lengthOf 10 = .ok (.ifCond .ne 13, 3) := dc_154 (a := 0) (b := 13) (v := 13) (by decide +kernel)
theorem dX35_lengthOf_13 : decode cX35_lengthOf 13 = .ok (.aload_n 0, 1) := dc_42 (by decide +kernel)
theorem dX35_lengthOf_14 : decode cX35_lengthOf 14 = .ok (.aload_n 0, 1) := dc_42 (by decide +kernel)
theorem dX35_lengthOf_15 : decode cX35_lengthOf 15 = .ok (.iload_n 2, 1) := dc_28 (by decide +kernel)
theorem dX35_lengthOf_16 : decode cX35_lengthOf 16 = .ok (.invokevirtual 640, 3) := dc_182 (a := 2) (b := 128) (n := 640) (by decide +kernel)
theorem dX35_lengthOf_19 : decode cX35_lengthOf 19 = .ok (.invokevirtual 431, 3) := dc_182 (a := 1) (b := 175) (n := 431) (by decide +kernel)
theorem dX35_lengthOf_22 : decode cX35_lengthOf 22 = .ok (.ireturn, 1) := dc_172 (by decide +kernel)
theorem dX35_lengthOf_23 : decode cX35_lengthOf 23 = .ok (.aload_n 0, 1) := dc_42 (by decide +kernel)
theorem dX35_lengthOf_24 : decode cX35_lengthOf 24 = .ok (.sipush 3299, 3) := dc_17 (a := 12) (b := 227) (v := 3299) (by decide +kernel)
theorem dX35_lengthOf_27 : decode cX35_lengthOf 27 = .ok (.aload_n 0, 1) := dc_42 (by decide +kernel)
theorem dX35_lengthOf_28 : decode cX35_lengthOf 28 = .ok (.sipush 255, 3) := dc_17 (a := 0) (b := 255) (v := 255) (by decide +kernel)
theorem dX35_lengthOf_31 : decode cX35_lengthOf 31 = .ok (.invokevirtual 590, 3) := dc_182 (a := 2) (b := 78) (n := 590) (by decide +kernel)
theorem dX35_lengthOf_34 : decode cX35_lengthOf 34 = .ok (.iadd, 1) := dc_96 (by decide +kernel)
theorem dX35_lengthOf_35 : decode cX35_lengthOf 35 = .ok (.invokevirtual 431, 3) := dc_182 (a := 1) (b := 175) (n := 431) (by decide +kernel)
theorem dX35_lengthOf_38 : decode cX35_lengthOf 38 = .ok (.istore_n 3, 1) := dc_62 (by decide +kernel)
theorem dX35_lengthOf_39 : decode cX35_lengthOf 39 = .ok (.aload_n 0, 1) := dc_42 (by decide +kernel)
theorem dX35_lengthOf_40 : decode cX35_lengthOf 40 = .ok (.getfield 321, 3) := dc_180 (a := 1) (b := 65) (n := 321) (by decide +kernel)
theorem dX35_lengthOf_43 : decode cX35_lengthOf 43 = .ok (.ifCond .gt 7, 3) := dc_157 (a := 0) (b := 7) (v := 7) (by decide +kernel)
theorem dX35_lengthOf_46 : decode cX35_lengthOf 46 = .ok (.iload_n 3, 1) := dc_29 (by decide +kernel)
theorem dX35_lengthOf_47 : decode cX35_lengthOf 47 = .ok (.ifCond .ge 7, 3) := dc_156 (a := 0) (b := 7) (v := 7) (by decide +kernel)
theorem dX35_lengthOf_50 : decode cX35_lengthOf 50 = .ok (.iconst 0, 1) := dc_3 (by decide +kernel)
theorem dX35_lengthOf_51 : decode cX35_lengthOf 51 = .ok (.goto 39, 3) := dc_167 (a := 0) (b := 39) (v := 39) (by decide +kernel)
theorem dX35_lengthOf_54 : decode cX35_lengthOf 54 = .ok (.iload_n 2, 1) := dc_28 (by decide +kernel)
theorem dX35_lengthOf_55 : decode cX35_lengthOf 55 = .ok (.bipush 44, 2) := dc_16 (a := 44) (v := 44) (by decide +kernel)
theorem dX35_lengthOf_57 : decode cX35_lengthOf 57 = .ok (.if_icmp .ne 12, 3) := dc_160 (a := 0) (b := 12) (v := 12) (by decide +kernel)
theorem dX35_lengthOf_60 : decode cX35_lengthOf 60 = .ok (.aload_n 0, 1) := dc_42 (by decide +kernel)
theorem dX35_lengthOf_61 : decode cX35_lengthOf 61 = .ok (.getfield 157, 3) := dc_180 (a := 0) (b := 157) (n := 157) (by decide +kernel)
theorem dX35_lengthOf_64 : decode cX35_lengthOf 64 = .ok (.iload_n 3, 1) := dc_29 (by decide +kernel)
theorem dX35_lengthOf_65 : decode cX35_lengthOf 65 = .ok (.iaload, 1) := dc_46 (by decide +kernel)
theorem dX35_lengthOf_66 : decode cX35_lengthOf 66 = .ok (.goto 24, 3) := dc_167 (a := 0) (b := 24) (v := 24) (by decide +kernel)
theorem dX35_lengthOf_69 : decode cX35_lengthOf 69 = .ok (.iload_n 2, 1) := dc_28 (by decide +kernel)
theorem dX35_lengthOf_70 : decode cX35_lengthOf 70 = .ok (.bipush 45, 2) := dc_16 (a := 45) (v := 45) (by decide +kernel)
theorem dX35_lengthOf_72 : decode cX35_lengthOf 72 = .ok (.if_icmp .ne 12, 3) := dc_160 (a := 0) (b := 12) (v := 12) (by decide +kernel)
theorem dX35_lengthOf_75 : decode cX35_lengthOf 75 = .ok (.aload_n 0, 1) := dc_42 (by decide +kernel)
theorem dX35_lengthOf_76 : decode cX35_lengthOf 76 = .ok (.getfield 160, 3) := dc_180 (a := 0) (b := 160) (n := 160) (by decide +kernel)
theorem dX35_lengthOf_79 : decode cX35_lengthOf 79 = .ok (.iload_n 3, 1) := dc_29 (by decide +kernel)
theorem dX35_lengthOf_80 : decode cX35_lengthOf 80 = .ok (.iaload, 1) := dc_46 (by decide +kernel)
theorem dX35_lengthOf_81 : decode cX35_lengthOf 81 = .ok (.goto 9, 3) := dc_167 (a := 0) (b := 9) (v := 9) (by decide +kernel)
theorem dX35_lengthOf_84 : decode cX35_lengthOf 84 = .ok (.aload_n 0, 1) := dc_42 (by decide +kernel)
theorem dX35_lengthOf_85 : decode cX35_lengthOf 85 = .ok (.getfield 163, 3) := dc_180 (a := 0) (b := 163) (n := 163) (by decide +kernel)
theorem dX35_lengthOf_88 : decode cX35_lengthOf 88 = .ok (.iload_n 3, 1) := dc_29 (by decide +kernel)
theorem dX35_lengthOf_89 : decode cX35_lengthOf 89 = .ok (.iaload, 1) := dc_46 (by decide +kernel)
theorem dX35_lengthOf_90 : decode cX35_lengthOf 90 = .ok (.ireturn, 1) := dc_172 (by decide +kernel)
def fX35_lengthOf_b90 (sN : Nat → eH → Option (Int32 × eH)) (s0 : Int32) (h : eH) : Option (Int32 × eH) :=
  some (s0, h)
theorem pX35_lengthOf_b90 {w : eW} {d : Nat} {dr : Nat} (hd : dr + 4 ≤ d + 1) (hdr : 12 ≤ dr) {sN : Nat → eH → Option (Int32 × eH)} (hsN : ∀ a h q, sN a h = some q → wm w dr YX35_number [.ref a] h (e_is (e_rn c_I q))) {s0 : Int32} {h : eH} {q} (hf : fX35_lengthOf_b90 sN s0 h = some q) : wp w (d + 1) YX35_lengthOf 90 [none, none, none, none] [.int s0] h (e_is (e_rn c_I q)) := by
  unfold fX35_lengthOf_b90 at hf
  cases hf
  exact w_iret dX35_lengthOf_90 rfl rfl rfl
def fX35_lengthOf_b50 (sN : Nat → eH → Option (Int32 × eH))  (h : eH) : Option (Int32 × eH) :=
  fX35_lengthOf_b90 sN (0 : Int32) h
theorem pX35_lengthOf_b50 {w : eW} {d : Nat} {dr : Nat} (hd : dr + 4 ≤ d + 1) (hdr : 12 ≤ dr) {sN : Nat → eH → Option (Int32 × eH)} (hsN : ∀ a h q, sN a h = some q → wm w dr YX35_number [.ref a] h (e_is (e_rn c_I q)))  {h : eH} {q} (hf : fX35_lengthOf_b50 sN h = some q) : wp w (d + 1) YX35_lengthOf 50 [none, none, none, none] [] h (e_is (e_rn c_I q)) := by
  unfold fX35_lengthOf_b50 at hf
  refine w_iconst dX35_lengthOf_50 (v := 0) (by decide) ?_
  refine w_goto 90 dX35_lengthOf_51 (by decide) ?_
  exact (pX35_lengthOf_b90 hd hdr hsN hf).to trivial
def fX35_lengthOf (sN : Nat → eH → Option (Int32 × eH)) (this : Nat) (p0 : Int32) (h : eH) : Option (Int32 × eH) :=
  (k_ok 34 h this).bind fun _ =>
  (fX35_primitiveOf this p0 h).bind fun q2 =>
  (fX35_isOfBox q2.1 q2.2).bind fun q3 =>
  if ¬ q3.1 = 0 then
    (k_ok 34 q3.2 this).bind fun _ =>
    (fX35_small sN this (255 : Int32) q3.2).bind fun q6 =>
    (k_ok 34 q6.2 this).bind fun _ =>
    (fX35_now this ((3299 : Int32) + q6.1) q6.2).bind fun q8 =>
    (g_I 34 q8.2 this 46).bind fun x9 =>
    if 0 < x9 then
      fX35_lengthOf_b50 sN q8.2
    else
      if 0 ≤ q8.1 then
        if ¬ q2.1 = (44 : Int32) then
          if ¬ q2.1 = (45 : Int32) then
            (g_A 34 q8.2 this 70).bind fun a15 =>
            (r_I 100 q8.2 a15 q8.1).bind fun x17 =>
            fX35_lengthOf_b90 sN x17 q8.2
          else
            (g_A 34 q8.2 this 69).bind fun a19 =>
            (r_I 100 q8.2 a19 q8.1).bind fun x21 =>
            fX35_lengthOf_b90 sN x21 q8.2
        else
          (g_A 34 q8.2 this 68).bind fun a23 =>
          (r_I 100 q8.2 a23 q8.1).bind fun x25 =>
          fX35_lengthOf_b90 sN x25 q8.2
      else
        fX35_lengthOf_b50 sN q8.2
  else
    (k_ok 34 q3.2 this).bind fun _ =>
    (fX35_at sN this q2.1 q3.2).bind fun q28 =>
    (k_ok 34 q28.2 this).bind fun _ =>
    (fX35_now this q28.1 q28.2).bind fun q30 =>
    some (q30.1, q30.2)
theorem pX35_lengthOf {w : eW} {d : Nat} {dr : Nat} (hd : dr + 4 ≤ d) (hdr : 12 ≤ dr) {sN : Nat → eH → Option (Int32 × eH)} (hsN : ∀ a h q, sN a h = some q → wm w dr YX35_number [.ref a] h (e_is (e_rn c_I q))) {this : Nat} {p0 : Int32} {h : eH} {q} (hf : fX35_lengthOf sN this p0 h = some q) : wm w d YX35_lengthOf [.ref this, .int p0] h (e_is (e_rn c_I q)) := by
  obtain ⟨d, rfl⟩ : ∃ e, d = e + 1 := ⟨d - 1, by omega⟩
  show wp w (d + 1) YX35_lengthOf 0 [some (.ref this), some (.int p0), none, none] [] h _
  unfold fX35_lengthOf at hf
  refine w_aload_n dX35_lengthOf_0 rfl rfl ?_
  refine w_iload_n dX35_lengthOf_1 rfl rfl ?_
  obtain ⟨_, b1, hf⟩ := Option.bind_eq_some_iff.mp hf
  refine x_cnI hf (e_stV (Yc := YX35_primitiveOf) (ci := 34) (av := [.int p0]) (st := []) dX35_lengthOf_2 q5254 mX35_primitiveOf rfl (k_ok_some b1).1 (k_ok_some b1).2) mX35_primitiveOf.2.2.1 mX35_primitiveOf.2.2.2.2.1 (Nat.le_of_ble_eq_true rfl) (Nat.le_of_ble_eq_true rfl) (fun q hq => pX35_primitiveOf (by omega) hq) (fun q2 hf => ?_)
  refine w_istore_n dX35_lengthOf_5 rfl (by decide) (ls' := [some (.ref this), some (.int p0), some (.int q2.1), none]) rfl ?_
  refine w_iload_n dX35_lengthOf_6 rfl rfl ?_
  refine x_cnI hf (e_stS (Yc := YX35_isOfBox) (av := [.int q2.1]) (st := []) dX35_lengthOf_7 q5286 mX35_isOfBox) mX35_isOfBox.2.2.1 mX35_isOfBox.2.2.2.2.1 (Nat.le_of_ble_eq_true rfl) (Nat.le_of_ble_eq_true rfl) (fun q hq => pX35_isOfBox (by omega) hq) (fun q3 hf => ?_)
  refine w_if_ne 23 dX35_lengthOf_10 (by decide) (fun c4 => ?_) (fun c4 => ?_)
  · replace hf := (if_pos (show ¬ q3.1 = 0 from c4)).symm.trans hf
    refine w_aload_n dX35_lengthOf_23 rfl rfl ?_
    refine w_sipush dX35_lengthOf_24 (v := 3299) (by decide) ?_
    refine w_aload_n dX35_lengthOf_27 rfl rfl ?_
    refine w_sipush dX35_lengthOf_28 (v := 255) (by decide) ?_
    obtain ⟨_, b5, hf⟩ := Option.bind_eq_some_iff.mp hf
    refine x_cnI hf (e_stV (Yc := YX35_small) (ci := 34) (av := [.int (255 : Int32)]) (st := [.int (3299 : Int32), .ref this]) dX35_lengthOf_31 q5271 mX35_small rfl (k_ok_some b5).1 (k_ok_some b5).2) mX35_small.2.2.1 mX35_small.2.2.2.2.1 (Nat.le_of_ble_eq_true rfl) (Nat.le_of_ble_eq_true rfl) (fun q hq => pX35_small (by omega) hdr hsN hq) (fun q6 hf => ?_)
    refine w_iadd dX35_lengthOf_34 ?_
    obtain ⟨_, b7, hf⟩ := Option.bind_eq_some_iff.mp hf
    refine x_cnI hf (e_stV (Yc := YX35_now) (ci := 34) (av := [.int ((3299 : Int32) + q6.1)]) (st := []) dX35_lengthOf_35 q5097 mX35_now rfl (k_ok_some b7).1 (k_ok_some b7).2) mX35_now.2.2.1 mX35_now.2.2.2.2.1 (Nat.le_of_ble_eq_true rfl) (Nat.le_of_ble_eq_true rfl) (fun q hq => pX35_now (by omega) hq) (fun q8 hf => ?_)
    refine w_istore_n dX35_lengthOf_38 rfl (by decide) (ls' := [some (.ref this), some (.int p0), some (.int q2.1), some (.int q8.1)]) rfl ?_
    refine w_aload_n dX35_lengthOf_39 rfl rfl ?_
    obtain ⟨x9, b10, hf⟩ := Option.bind_eq_some_iff.mp hf
    refine GX35_321 b10 dX35_lengthOf_40 rfl ?_
    refine w_if_gt 50 dX35_lengthOf_43 (by decide) (fun c11 => ?_) (fun c11 => ?_)
    · replace hf := (if_pos (show 0 < x9 from c11)).symm.trans hf
      exact (pX35_lengthOf_b50 hd hdr hsN hf).to trivial
    · replace hf := (if_neg (show ¬ (0 < x9) from c11)).symm.trans hf
      refine w_iload_n dX35_lengthOf_46 rfl rfl ?_
      refine w_if_ge 54 dX35_lengthOf_47 (by decide) (fun c12 => ?_) (fun c12 => ?_)
      · replace hf := (if_pos (show 0 ≤ q8.1 from c12)).symm.trans hf
        refine w_iload_n dX35_lengthOf_54 rfl rfl ?_
        refine w_bipush dX35_lengthOf_55 (v := 44) (by decide) ?_
        refine w_icmp_ne 69 dX35_lengthOf_57 (by decide) (fun c13 => ?_) (fun c13 => ?_)
        · replace hf := (if_pos (show ¬ q2.1 = (44 : Int32) from c13)).symm.trans hf
          refine w_iload_n dX35_lengthOf_69 rfl rfl ?_
          refine w_bipush dX35_lengthOf_70 (v := 45) (by decide) ?_
          refine w_icmp_ne 84 dX35_lengthOf_72 (by decide) (fun c14 => ?_) (fun c14 => ?_)
          · replace hf := (if_pos (show ¬ q2.1 = (45 : Int32) from c14)).symm.trans hf
            refine w_aload_n dX35_lengthOf_84 rfl rfl ?_
            obtain ⟨a15, b16, hf⟩ := Option.bind_eq_some_iff.mp hf
            refine GX35_163 b16 dX35_lengthOf_85 rfl ?_
            refine w_iload_n dX35_lengthOf_88 rfl rfl ?_
            obtain ⟨x17, b18, hf⟩ := Option.bind_eq_some_iff.mp hf
            refine x_rI b18 dX35_lengthOf_89 ?_
            exact (pX35_lengthOf_b90 hd hdr hsN hf).to trivial
          · replace hf := (if_neg (show ¬ (¬ q2.1 = (45 : Int32)) from (fun z => z c14))).symm.trans hf
            refine w_aload_n dX35_lengthOf_75 rfl rfl ?_
            obtain ⟨a19, b20, hf⟩ := Option.bind_eq_some_iff.mp hf
            refine GX35_160 b20 dX35_lengthOf_76 rfl ?_
            refine w_iload_n dX35_lengthOf_79 rfl rfl ?_
            obtain ⟨x21, b22, hf⟩ := Option.bind_eq_some_iff.mp hf
            refine x_rI b22 dX35_lengthOf_80 ?_
            refine w_goto 90 dX35_lengthOf_81 (by decide) ?_
            exact (pX35_lengthOf_b90 hd hdr hsN hf).to trivial
        · replace hf := (if_neg (show ¬ (¬ q2.1 = (44 : Int32)) from (fun z => z c13))).symm.trans hf
          refine w_aload_n dX35_lengthOf_60 rfl rfl ?_
          obtain ⟨a23, b24, hf⟩ := Option.bind_eq_some_iff.mp hf
          refine GX35_157 b24 dX35_lengthOf_61 rfl ?_
          refine w_iload_n dX35_lengthOf_64 rfl rfl ?_
          obtain ⟨x25, b26, hf⟩ := Option.bind_eq_some_iff.mp hf
          refine x_rI b26 dX35_lengthOf_65 ?_
          refine w_goto 90 dX35_lengthOf_66 (by decide) ?_
          exact (pX35_lengthOf_b90 hd hdr hsN hf).to trivial
      · replace hf := (if_neg (show ¬ (0 ≤ q8.1) from c12)).symm.trans hf
        exact (pX35_lengthOf_b50 hd hdr hsN hf).to trivial
  · replace hf := (if_neg (show ¬ (¬ q3.1 = 0) from (fun z => z c4))).symm.trans hf
    refine w_aload_n dX35_lengthOf_13 rfl rfl ?_
    refine w_aload_n dX35_lengthOf_14 rfl rfl ?_
    refine w_iload_n dX35_lengthOf_15 rfl rfl ?_
    obtain ⟨_, b27, hf⟩ := Option.bind_eq_some_iff.mp hf
    refine x_cnI hf (e_stV (Yc := YX35_at) (ci := 34) (av := [.int q2.1]) (st := [.ref this]) dX35_lengthOf_16 q5275 mX35_at rfl (k_ok_some b27).1 (k_ok_some b27).2) mX35_at.2.2.1 mX35_at.2.2.2.2.1 (Nat.le_of_ble_eq_true rfl) (Nat.le_of_ble_eq_true rfl) (fun q hq => pX35_at (by omega) hdr hsN hq) (fun q28 hf => ?_)
    obtain ⟨_, b29, hf⟩ := Option.bind_eq_some_iff.mp hf
    refine x_cnI hf (e_stV (Yc := YX35_now) (ci := 34) (av := [.int q28.1]) (st := []) dX35_lengthOf_19 q5097 mX35_now rfl (k_ok_some b29).1 (k_ok_some b29).2) mX35_now.2.2.1 mX35_now.2.2.2.2.1 (Nat.le_of_ble_eq_true rfl) (Nat.le_of_ble_eq_true rfl) (fun q hq => pX35_now (by omega) hq) (fun q30 hf => ?_)
    cases hf
    exact w_iret dX35_lengthOf_22 rfl rfl rfl
abbrev cX35_isDigit : ByteArray := prog_37_method_78_code
def yX35_isDigit : MethodName := ⟨RX35, "isDigit", "(I)Z"⟩
def YX35_isDigit : eY := (yX35_isDigit, cX35_isDigit, 1, (Option.some FieldType.boolean), [])
theorem mX35_isDigit : e_ms YX35_isDigit 1 := ⟨q5233, q466, q5234, by decide, by decide +kernel, (e_sig (by decide +kernel))⟩
theorem dX35_isDigit_0 : decode cX35_isDigit 0 = .ok (.iload_n 0, 1) := dc_26 (by decide +kernel)
theorem dX35_isDigit_1 : decode cX35_isDigit 1 = .ok (.sipush 3120, 3) := dc_17 (a := 12) (b := 48) (v := 3120) (by decide +kernel)
theorem dX35_isDigit_4 : decode cX35_isDigit 4 = .ok (.if_icmp .lt 14, 3) := dc_161 (a := 0) (b := 14) (v := 14) (by decide +kernel)
theorem dX35_isDigit_7 : decode cX35_isDigit 7 = .ok (.iload_n 0, 1) := dc_26 (by decide +kernel)
theorem dX35_isDigit_8 : decode cX35_isDigit 8 = .ok (.sipush 3129, 3) := dc_17 (a := 12) (b := 57) (v := 3129) (by decide +kernel)
theorem dX35_isDigit_11 : decode cX35_isDigit 11 = .ok (.if_icmp .gt 7, 3) := dc_163 (a := 0) (b := 7) (v := 7) (by decide +kernel)
theorem dX35_isDigit_14 : decode cX35_isDigit 14 = .ok (.iconst 1, 1) := dc_4 (by decide +kernel)
theorem dX35_isDigit_15 : decode cX35_isDigit 15 = .ok (.goto 4, 3) := dc_167 (a := 0) (b := 4) (v := 4) (by decide +kernel)
theorem dX35_isDigit_18 : decode cX35_isDigit 18 = .ok (.iconst 0, 1) := dc_3 (by decide +kernel)
theorem dX35_isDigit_19 : decode cX35_isDigit 19 = .ok (.ireturn, 1) := dc_172 (by decide +kernel)
def fX35_isDigit_b19 (s0 : Int32) (h : eH) : Option (Int32 × eH) :=
  z_r s0 (s0, h)
theorem pX35_isDigit_b19 {w : eW} {d : Nat} (hd : 0 ≤ d) {s0 : Int32} {h : eH} {q} (hf : fX35_isDigit_b19 s0 h = some q) : wp w d YX35_isDigit 19 [none] [.int s0] h (e_is (e_rn c_I q)) := by
  unfold fX35_isDigit_b19 at hf
  obtain ⟨b1, rfl⟩ := z_r_some hf
  exact w_iret dX35_isDigit_19 rfl b1 rfl
def fX35_isDigit_b18  (h : eH) : Option (Int32 × eH) :=
  fX35_isDigit_b19 (0 : Int32) h
theorem pX35_isDigit_b18 {w : eW} {d : Nat} (hd : 0 ≤ d)  {h : eH} {q} (hf : fX35_isDigit_b18  h = some q) : wp w d YX35_isDigit 18 [none] [] h (e_is (e_rn c_I q)) := by
  unfold fX35_isDigit_b18 at hf
  refine w_iconst dX35_isDigit_18 (v := 0) (by decide) ?_
  exact (pX35_isDigit_b19 hd hf).to trivial
def fX35_isDigit (p0 : Int32) (h : eH) : Option (Int32 × eH) :=
  if p0 < (3120 : Int32) then
    fX35_isDigit_b18 h
  else
    if (3129 : Int32) < p0 then
      fX35_isDigit_b18 h
    else
      fX35_isDigit_b19 (1 : Int32) h
theorem pX35_isDigit {w : eW} {d : Nat} (hd : 0 ≤ d) {p0 : Int32} {h : eH} {q} (hf : fX35_isDigit p0 h = some q) : wm w d YX35_isDigit [.int p0] h (e_is (e_rn c_I q)) := by
  show wp w d YX35_isDigit 0 [some (.int p0)] [] h _
  unfold fX35_isDigit at hf
  refine w_iload_n dX35_isDigit_0 rfl rfl ?_
  refine w_sipush dX35_isDigit_1 (v := 3120) (by decide) ?_
  refine w_icmp_lt 18 dX35_isDigit_4 (by decide) (fun c1 => ?_) (fun c1 => ?_)
  · replace hf := (if_pos (show p0 < (3120 : Int32) from c1)).symm.trans hf
    exact (pX35_isDigit_b18 hd hf).to trivial
  · replace hf := (if_neg (show ¬ (p0 < (3120 : Int32)) from c1)).symm.trans hf
    refine w_iload_n dX35_isDigit_7 rfl rfl ?_
    refine w_sipush dX35_isDigit_8 (v := 3129) (by decide) ?_
    refine w_icmp_gt 18 dX35_isDigit_11 (by decide) (fun c2 => ?_) (fun c2 => ?_)
    · replace hf := (if_pos (show (3129 : Int32) < p0 from c2)).symm.trans hf
      exact (pX35_isDigit_b18 hd hf).to trivial
    · replace hf := (if_neg (show ¬ ((3129 : Int32) < p0) from c2)).symm.trans hf
      refine w_iconst dX35_isDigit_14 (v := 1) (by decide) ?_
      refine w_goto 19 dX35_isDigit_15 (by decide) ?_
      exact (pX35_isDigit_b19 hd hf).to trivial
abbrev cX35_dropSpace : ByteArray := prog_37_method_79_code
def yX35_dropSpace : MethodName := ⟨RX35, "dropSpace", "()V"⟩
def YX35_dropSpace : eY := (yX35_dropSpace, cX35_dropSpace, 2, none, [])
theorem mX35_dropSpace : e_mv YX35_dropSpace RX35 0 := ⟨q5248, qs272, q5249, by decide, by decide +kernel, (e_sig (by decide +kernel))⟩
theorem dX35_dropSpace_0 : decode cX35_dropSpace 0 = .ok (.aload_n 0, 1) := dc_42 (by decide +kernel)
theorem dX35_dropSpace_1 : decode cX35_dropSpace 1 = .ok (.invokevirtual 487, 3) := dc_182 (a := 1) (b := 231) (n := 487) (by decide +kernel)
theorem dX35_dropSpace_4 : decode cX35_dropSpace 4 = .ok (.istore_n 1, 1) := dc_60 (by decide +kernel)
theorem dX35_dropSpace_5 : decode cX35_dropSpace 5 = .ok (.iload_n 1, 1) := dc_27 (by decide +kernel)
theorem dX35_dropSpace_6 : decode cX35_dropSpace 6 = .ok (.bipush 10, 2) := dc_16 (a := 10) (v := 10) (by decide +kernel)
theorem dX35_dropSpace_8 : decode cX35_dropSpace 8 = .ok (.invokestatic 493, 3) := dc_184 (a := 1) (b := 237) (n := 493) (by decide +kernel)
theorem dX35_dropSpace_11 : decode cX35_dropSpace 11 = .ok (.ifCond .ne 8, 3) := dc_154 (a := 0) (b := 8) (v := 8) (by decide +kernel)
theorem dX35_dropSpace_14 : decode cX35_dropSpace 14 = .ok (.aload_n 0, 1) := dc_42 (by decide +kernel)
theorem dX35_dropSpace_15 : decode cX35_dropSpace 15 = .ok (.iload_n 1, 1) := dc_27 (by decide +kernel)
theorem dX35_dropSpace_16 : decode cX35_dropSpace 16 = .ok (.invokevirtual 509, 3) := dc_182 (a := 1) (b := 253) (n := 509) (by decide +kernel)
theorem dX35_dropSpace_19 : decode cX35_dropSpace 19 = .ok (.return_, 1) := dc_177 (by decide +kernel)
def fX35_dropSpace_b19 (N : Nat) (sE : Nat → Int32 → eH → Option (Unit × eH))  (h : eH) : Option (Unit × eH) :=
  some ((), h)
theorem pX35_dropSpace_b19 {w : eW} {d : Nat} {dr : Nat} (hd : dr + 6 ≤ d + 1) (hdr : 12 ≤ dr) {N : Nat} {sE : Nat → Int32 → eH → Option (Unit × eH)} (hsE : ∀ a t0 h q, sE a t0 h = some q → wm w dr YX35_expand [.ref a, .int t0] h (e_is (e_rn c_V q)))  {h : eH} {q} (hf : fX35_dropSpace_b19 N sE h = some q) : wp w (d + 1) YX35_dropSpace 19 [none, none] [] h (e_is (e_rn c_V q)) := by
  unfold fX35_dropSpace_b19 at hf
  cases hf
  exact w_vret dX35_dropSpace_19 rfl rfl
def fX35_dropSpace (N : Nat) (sE : Nat → Int32 → eH → Option (Unit × eH)) (this : Nat) (h : eH) : Option (Unit × eH) :=
  (k_ok 34 h this).bind fun _ =>
  (fX35_getExpanded N sE this h).bind fun q2 =>
  (fX35_isOf q2.1 (10 : Int32) q2.2).bind fun q3 =>
  if ¬ q3.1 = 0 then
    fX35_dropSpace_b19 N sE q3.2
  else
    (k_ok 34 q3.2 this).bind fun _ =>
    (fX35_put this q2.1 q3.2).bind fun q6 =>
    fX35_dropSpace_b19 N sE q6.2
theorem pX35_dropSpace {w : eW} {d : Nat} {dr : Nat} (hd : dr + 6 ≤ d) (hdr : 12 ≤ dr) {N : Nat} {sE : Nat → Int32 → eH → Option (Unit × eH)} (hsE : ∀ a t0 h q, sE a t0 h = some q → wm w dr YX35_expand [.ref a, .int t0] h (e_is (e_rn c_V q))) {this : Nat} {h : eH} {q} (hf : fX35_dropSpace N sE this h = some q) : wm w d YX35_dropSpace [.ref this] h (e_is (e_rn c_V q)) := by
  obtain ⟨d, rfl⟩ : ∃ e, d = e + 1 := ⟨d - 1, by omega⟩
  show wp w (d + 1) YX35_dropSpace 0 [some (.ref this), none] [] h _
  unfold fX35_dropSpace at hf
  refine w_aload_n dX35_dropSpace_0 rfl rfl ?_
  obtain ⟨_, b1, hf⟩ := Option.bind_eq_some_iff.mp hf
  refine x_cnI hf (e_stV (Yc := YX35_getExpanded) (ci := 34) (av := []) (st := []) dX35_dropSpace_1 q5077 mX35_getExpanded rfl (k_ok_some b1).1 (k_ok_some b1).2) mX35_getExpanded.2.2.1 mX35_getExpanded.2.2.2.2.1 (Nat.le_of_ble_eq_true rfl) (Nat.le_of_ble_eq_true rfl) (fun q hq => pX35_getExpanded (by omega) hdr hsE hq) (fun q2 hf => ?_)
  refine w_istore_n dX35_dropSpace_4 rfl (by decide) (ls' := [some (.ref this), some (.int q2.1)]) rfl ?_
  refine w_iload_n dX35_dropSpace_5 rfl rfl ?_
  refine w_bipush dX35_dropSpace_6 (v := 10) (by decide) ?_
  refine x_cnI hf (e_stS (Yc := YX35_isOf) (av := [.int q2.1, .int (10 : Int32)]) (st := []) dX35_dropSpace_8 q5166 mX35_isOf) mX35_isOf.2.2.1 mX35_isOf.2.2.2.2.1 (Nat.le_of_ble_eq_true rfl) (Nat.le_of_ble_eq_true rfl) (fun q hq => pX35_isOf (by omega) hq) (fun q3 hf => ?_)
  refine w_if_ne 19 dX35_dropSpace_11 (by decide) (fun c4 => ?_) (fun c4 => ?_)
  · replace hf := (if_pos (show ¬ q3.1 = 0 from c4)).symm.trans hf
    exact (pX35_dropSpace_b19 hd hdr hsE hf).to trivial
  · replace hf := (if_neg (show ¬ (¬ q3.1 = 0) from (fun z => z c4))).symm.trans hf
    refine w_aload_n dX35_dropSpace_14 rfl rfl ?_
    refine w_iload_n dX35_dropSpace_15 rfl rfl ?_
    obtain ⟨_, b5, hf⟩ := Option.bind_eq_some_iff.mp hf
    refine x_cnV hf (e_stV (Yc := YX35_put) (ci := 34) (av := [.int q2.1]) (st := []) dX35_dropSpace_16 q5181 mX35_put rfl (k_ok_some b5).1 (k_ok_some b5).2) mX35_put.2.2.1 mX35_put.2.2.2.2.1 (Nat.le_of_ble_eq_true rfl) (Nat.le_of_ble_eq_true rfl) (fun q hq => pX35_put (by omega) hq) (fun q6 hf => ?_)
    exact (pX35_dropSpace_b19 hd hdr hsE hf).to trivial
