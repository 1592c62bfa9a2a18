set_option maxRecDepth 100000
set_option maxHeartbeats 4000000
theorem q4135 : (Jvm.Cond.fieldLinkNest "TypeHouseModel" (275 : Nat) "TypeHouseModel$Hyphens" "typed" "I" "TypeHouseModel") ∈ lw_tbl := lw_at lw_m16 110 rfl
theorem q4137 : (Jvm.Cond.fieldLinkNest "TypeHouseModel" (272 : Nat) "TypeHouseModel$Hyphens" "text" "[I" "TypeHouseModel") ∈ lw_tbl := lw_at lw_m16 112 rfl
theorem q4503 : (Jvm.Cond.fieldLink "TypeHouseModel" (255 : Nat) "TypeHouseModel" "taped" "I") ∈ lw_all := lw_g (lw_at lw_m17 238 rfl) rfl
theorem q4894 : (Jvm.Cond.instanceMethod ({ cls := "TypeHouseModel", name := "feed", desc := "(IIIII)V" } : Jvm.MethodName)) ∈ lw_all := lw_g (lw_at lw_m19 149 rfl) rfl
theorem q4895 : (Jvm.Cond.selects "TypeHouseModel" ({ cls := "TypeHouseModel", name := "feed", desc := "(IIIII)V" } : Jvm.MethodName) ({ cls := "TypeHouseModel", name := "feed", desc := "(IIIII)V" } : Jvm.MethodName)) ∈ lw_all := lw_g (lw_at lw_m19 150 rfl) rfl
theorem q4896 : (Jvm.Cond.code ({ cls := "TypeHouseModel", name := "feed", desc := "(IIIII)V" } : Jvm.MethodName) prog_37_method_4_code (6 : Nat) (Option.none : Option Jvm.ClassFile.FieldType)) ∈ lw_all := lw_g (lw_at lw_m19 151 rfl) rfl
theorem q4897 : (Jvm.Cond.methodLink "TypeHouseModel" (258 : Nat) ({ cls := "TypeHouseModel", name := "lay", desc := "(I)V" } : Jvm.MethodName)) ∈ lw_all := lw_g (lw_at lw_m19 152 rfl) rfl
theorem q4899 : (Jvm.Cond.instanceMethod ({ cls := "TypeHouseModel", name := "lay", desc := "(I)V" } : Jvm.MethodName)) ∈ lw_all := lw_g (lw_at lw_m19 154 rfl) rfl
theorem q4900 : (Jvm.Cond.code ({ cls := "TypeHouseModel", name := "lay", desc := "(I)V" } : Jvm.MethodName) prog_37_method_3_code (3 : Nat) (Option.none : Option Jvm.ClassFile.FieldType)) ∈ lw_all := lw_g (lw_at lw_m19 155 rfl) rfl
theorem q4902 : (Jvm.Cond.instanceMethod ({ cls := "TypeHouseModel", name := "fuel", desc := "(I)V" } : Jvm.MethodName)) ∈ lw_all := lw_g (lw_at lw_m19 157 rfl) rfl
theorem q4903 : (Jvm.Cond.selects "TypeHouseModel" ({ cls := "TypeHouseModel", name := "fuel", desc := "(I)V" } : Jvm.MethodName) ({ cls := "TypeHouseModel", name := "fuel", desc := "(I)V" } : Jvm.MethodName)) ∈ lw_all := lw_g (lw_at lw_m19 158 rfl) rfl
theorem q4904 : (Jvm.Cond.code ({ cls := "TypeHouseModel", name := "fuel", desc := "(I)V" } : Jvm.MethodName) prog_37_method_5_code (2 : Nat) (Option.none : Option Jvm.ClassFile.FieldType)) ∈ lw_all := lw_g (lw_at lw_m19 159 rfl) rfl
theorem q4905 : (Jvm.Cond.constant "TypeHouseModel" (262 : Nat) (200000 : Int32)) ∈ lw_all := lw_g (lw_at lw_m19 160 rfl) rfl
theorem q4907 : (Jvm.Cond.instanceMethod ({ cls := "TypeHouseModel", name := "end", desc := "(II)I" } : Jvm.MethodName)) ∈ lw_all := lw_g (lw_at lw_m19 162 rfl) rfl
theorem q4908 : (Jvm.Cond.selects "TypeHouseModel" ({ cls := "TypeHouseModel", name := "end", desc := "(II)I" } : Jvm.MethodName) ({ cls := "TypeHouseModel", name := "end", desc := "(II)I" } : Jvm.MethodName)) ∈ lw_all := lw_g (lw_at lw_m19 163 rfl) rfl
theorem q4909 : (Jvm.Cond.code ({ cls := "TypeHouseModel", name := "end", desc := "(II)I" } : Jvm.MethodName) prog_37_method_6_code (4 : Nat) (Option.some Jvm.ClassFile.FieldType.int)) ∈ lw_all := lw_g (lw_at lw_m19 164 rfl) rfl
theorem q4910 : (Jvm.Cond.methodLink "TypeHouseModel" (263 : Nat) ({ cls := "TypeHouseModel$Metrics", name := "fault", desc := "([BI)I" } : Jvm.MethodName)) ∈ lw_all := lw_g (lw_at lw_m19 165 rfl) rfl
theorem q4971 : (Jvm.Cond.instantiable "TypeHouseModel$Metrics" (4 : Nat)) ∈ lw_all := lw_g (lw_at lw_m19 226 rfl) rfl
theorem q4972 : (Jvm.Cond.methodLinkNest "TypeHouseModel" (267 : Nat) ({ cls := "TypeHouseModel$Metrics", name := "<init>", desc := "()V" } : Jvm.MethodName) "TypeHouseModel") ∈ lw_tbl := lw_at lw_m19 227 rfl
theorem q4992 : (Jvm.Cond.methodLink "TypeHouseModel" (268 : Nat) ({ cls := "TypeHouseModel$Metrics", name := "take", desc := "([BI)V" } : Jvm.MethodName)) ∈ lw_all := lw_g (lw_at lw_m20 7 rfl) rfl
theorem q4996 : (Jvm.Cond.methodLink "TypeHouseModel" (278 : Nat) ({ cls := "TypeHouseModel$Hyphens", name := "patterns", desc := "()I" } : Jvm.MethodName)) ∈ lw_all := lw_g (lw_at lw_m20 11 rfl) rfl
theorem q5039 : (Jvm.Cond.methodLink "TypeHouseModel" (282 : Nat) ({ cls := "TypeHouseModel$Hyphens", name := "words", desc := "()I" } : Jvm.MethodName)) ∈ lw_all := lw_g (lw_at lw_m20 54 rfl) rfl
theorem q5040 : (Jvm.Cond.instanceMethod ({ cls := "TypeHouseModel$Hyphens", name := "words", desc := "()I" } : Jvm.MethodName)) ∈ lw_all := lw_g (lw_at lw_m20 55 rfl) rfl
theorem q5041 : (Jvm.Cond.selects "TypeHouseModel$Hyphens" ({ cls := "TypeHouseModel$Hyphens", name := "words", desc := "()I" } : Jvm.MethodName) ({ cls := "TypeHouseModel$Hyphens", name := "words", desc := "()I" } : Jvm.MethodName)) ∈ lw_all := lw_g (lw_at lw_m20 56 rfl) rfl
theorem q5042 : (Jvm.Cond.code ({ cls := "TypeHouseModel$Hyphens", name := "words", desc := "()I" } : Jvm.MethodName) prog_40_method_16_code (3 : Nat) (Option.some Jvm.ClassFile.FieldType.int)) ∈ lw_all := lw_g (lw_at lw_m20 57 rfl) rfl
theorem q5043 : (Jvm.Cond.methodLink "TypeHouseModel$Hyphens" (135 : Nat) ({ cls := "TypeHouseModel$Hyphens", name := "readWords", desc := "(Z)I" } : Jvm.MethodName)) ∈ lw_all := lw_g (lw_at lw_m20 58 rfl) rfl
theorem q5045 : (Jvm.Cond.instanceMethod ({ cls := "TypeHouseModel$Hyphens", name := "readWords", desc := "(Z)I" } : Jvm.MethodName)) ∈ lw_all := lw_g (lw_at lw_m20 60 rfl) rfl
theorem q5046 : (Jvm.Cond.code ({ cls := "TypeHouseModel$Hyphens", name := "readWords", desc := "(Z)I" } : Jvm.MethodName) prog_40_method_15_code (6 : Nat) (Option.some Jvm.ClassFile.FieldType.int)) ∈ lw_all := lw_g (lw_at lw_m20 61 rfl) rfl
theorem q5047 : (Jvm.Cond.methodLink "TypeHouseModel$Hyphens" (128 : Nat) ({ cls := "TypeHouseModel$Hyphens", name := "readWord", desc := "()Z" } : Jvm.MethodName)) ∈ lw_all := lw_g (lw_at lw_m20 62 rfl) rfl
theorem q5055 : (Jvm.Cond.methodLink "TypeHouseModel" (288 : Nat) ({ cls := "TypeHouseModel", name := "run", desc := "()I" } : Jvm.MethodName)) ∈ lw_all := lw_g (lw_at lw_m20 70 rfl) rfl
theorem q5057 : (Jvm.Cond.instanceMethod ({ cls := "TypeHouseModel", name := "run", desc := "()I" } : Jvm.MethodName)) ∈ lw_all := lw_g (lw_at lw_m20 72 rfl) rfl
theorem q5058 : (Jvm.Cond.code ({ cls := "TypeHouseModel", name := "run", desc := "()I" } : Jvm.MethodName) prog_37_method_193_code (2 : Nat) (Option.some Jvm.ClassFile.FieldType.int)) ∈ lw_all := lw_g (lw_at lw_m20 73 rfl) rfl
theorem q5059 : (Jvm.Cond.methodLink "TypeHouseModel" (1267 : Nat) ({ cls := "TypeHouseModel$Device", name := "begin", desc := "()V" } : Jvm.MethodName)) ∈ lw_all := lw_g (lw_at lw_m20 74 rfl) rfl
theorem q5060 : (Jvm.Cond.instanceMethod ({ cls := "TypeHouseModel$Device", name := "begin", desc := "()V" } : Jvm.MethodName)) ∈ lw_all := lw_g (lw_at lw_m20 75 rfl) rfl
theorem q5061 : (Jvm.Cond.selects "TypeHouseModel$Device" ({ cls := "TypeHouseModel$Device", name := "begin", desc := "()V" } : Jvm.MethodName) ({ cls := "TypeHouseModel$Device", name := "begin", desc := "()V" } : Jvm.MethodName)) ∈ lw_all := lw_g (lw_at lw_m20 76 rfl) rfl
theorem q5062 : (Jvm.Cond.code ({ cls := "TypeHouseModel$Device", name := "begin", desc := "()V" } : Jvm.MethodName) prog_39_method_2_code (1 : Nat) (Option.none : Option Jvm.ClassFile.FieldType)) ∈ lw_all := lw_g (lw_at lw_m20 77 rfl) rfl
theorem q5063 : (Jvm.Cond.methodLink "TypeHouseModel$Device" (81 : Nat) ({ cls := "TypeHouseModel$Device", name := "open", desc := "()V" } : Jvm.MethodName)) ∈ lw_all := lw_g (lw_at lw_m20 78 rfl) rfl
theorem q5065 : (Jvm.Cond.instanceMethod ({ cls := "TypeHouseModel$Device", name := "open", desc := "()V" } : Jvm.MethodName)) ∈ lw_all := lw_g (lw_at lw_m20 80 rfl) rfl
theorem q5066 : (Jvm.Cond.code ({ cls := "TypeHouseModel$Device", name := "open", desc := "()V" } : Jvm.MethodName) prog_39_method_12_code (1 : Nat) (Option.none : Option Jvm.ClassFile.FieldType)) ∈ lw_all := lw_g (lw_at lw_m20 81 rfl) rfl
theorem q5071 : (Jvm.Cond.constant "TypeHouseModel$Device" (106 : Nat) (25400000 : Int32)) ∈ lw_all := lw_g (lw_at lw_m20 86 rfl) rfl
theorem q5076 : (Jvm.Cond.constant "TypeHouseModel$Device" (107 : Nat) (473628672 : Int32)) ∈ lw_all := lw_g (lw_at lw_m20 91 rfl) rfl
theorem q5146 : (Jvm.Cond.methodLink "TypeHouseModel" (497 : Nat) ({ cls := "TypeHouseModel", name := "tick", desc := "()V" } : Jvm.MethodName)) ∈ lw_all := lw_g (lw_at lw_m20 161 rfl) rfl
theorem q5148 : (Jvm.Cond.instanceMethod ({ cls := "TypeHouseModel", name := "tick", desc := "()V" } : Jvm.MethodName)) ∈ lw_all := lw_g (lw_at lw_m20 163 rfl) rfl
theorem q5149 : (Jvm.Cond.code ({ cls := "TypeHouseModel", name := "tick", desc := "()V" } : Jvm.MethodName) prog_37_method_41_code (1 : Nat) (Option.none : Option Jvm.ClassFile.FieldType)) ∈ lw_all := lw_g (lw_at lw_m20 164 rfl) rfl
theorem q5150 : (Jvm.Cond.methodLink "TypeHouseModel" (500 : Nat) ({ cls := "TypeHouseModel", name := "call", desc := "(I)V" } : Jvm.MethodName)) ∈ lw_all := lw_g (lw_at lw_m20 165 rfl) rfl
theorem q5185 : (Jvm.Cond.methodLink "TypeHouseModel" (503 : Nat) ({ cls := "TypeHouseModel", name := "primitive", desc := "(II)V" } : Jvm.MethodName)) ∈ lw_all := lw_g (lw_at lw_m20 200 rfl) rfl
theorem q5187 : (Jvm.Cond.instanceMethod ({ cls := "TypeHouseModel", name := "primitive", desc := "(II)V" } : Jvm.MethodName)) ∈ lw_all := lw_g (lw_at lw_m20 202 rfl) rfl
theorem q5188 : (Jvm.Cond.code ({ cls := "TypeHouseModel", name := "primitive", desc := "(II)V" } : Jvm.MethodName) prog_37_method_43_code (6 : Nat) (Option.none : Option Jvm.ClassFile.FieldType)) ∈ lw_all := lw_g (lw_at lw_m20 203 rfl) rfl
theorem q5189 : (Jvm.Cond.methodLink "TypeHouseModel" (512 : Nat) ({ cls := "TypeHouseModel", name := "makeName", desc := "()V" } : Jvm.MethodName)) ∈ lw_all := lw_g (lw_at lw_m20 204 rfl) rfl
theorem q5191 : (Jvm.Cond.instanceMethod ({ cls := "TypeHouseModel", name := "makeName", desc := "()V" } : Jvm.MethodName)) ∈ lw_all := lw_g (lw_at lw_m20 206 rfl) rfl
theorem q5192 : (Jvm.Cond.code ({ cls := "TypeHouseModel", name := "makeName", desc := "()V" } : Jvm.MethodName) prog_37_method_45_code (4 : Nat) (Option.none : Option Jvm.ClassFile.FieldType)) ∈ lw_all := lw_g (lw_at lw_m20 207 rfl) rfl
theorem q5209 : (Jvm.Cond.methodLink "TypeHouseModel" (515 : Nat) ({ cls := "TypeHouseModel", name := "spellOut", desc := "(I)V" } : Jvm.MethodName)) ∈ lw_all := lw_g (lw_at lw_m20 224 rfl) rfl
theorem q5211 : (Jvm.Cond.instanceMethod ({ cls := "TypeHouseModel", name := "spellOut", desc := "(I)V" } : Jvm.MethodName)) ∈ lw_all := lw_g (lw_at lw_m20 226 rfl) rfl
theorem q5212 : (Jvm.Cond.code ({ cls := "TypeHouseModel", name := "spellOut", desc := "(I)V" } : Jvm.MethodName) prog_37_method_47_code (5 : Nat) (Option.none : Option Jvm.ClassFile.FieldType)) ∈ lw_all := lw_g (lw_at lw_m20 227 rfl) rfl
theorem q5213 : (Jvm.Cond.methodLink "TypeHouseModel" (551 : Nat) ({ cls := "TypeHouseModel", name := "putOther", desc := "(I)V" } : Jvm.MethodName)) ∈ lw_all := lw_g (lw_at lw_m20 228 rfl) rfl
theorem q5215 : (Jvm.Cond.instanceMethod ({ cls := "TypeHouseModel", name := "putOther", desc := "(I)V" } : Jvm.MethodName)) ∈ lw_all := lw_g (lw_at lw_m20 230 rfl) rfl
theorem q5216 : (Jvm.Cond.code ({ cls := "TypeHouseModel", name := "putOther", desc := "(I)V" } : Jvm.MethodName) prog_37_method_46_code (2 : Nat) (Option.none : Option Jvm.ClassFile.FieldType)) ∈ lw_all := lw_g (lw_at lw_m20 231 rfl) rfl
theorem q5300 : (Jvm.Cond.methodLink "TypeHouseModel" (521 : Nat) ({ cls := "TypeHouseModel", name := "putDigits", desc := "(I)V" } : Jvm.MethodName)) ∈ lw_all := lw_g (lw_at lw_m21 75 rfl) rfl
theorem q5302 : (Jvm.Cond.instanceMethod ({ cls := "TypeHouseModel", name := "putDigits", desc := "(I)V" } : Jvm.MethodName)) ∈ lw_all := lw_g (lw_at lw_m21 77 rfl) rfl
theorem q5303 : (Jvm.Cond.code ({ cls := "TypeHouseModel", name := "putDigits", desc := "(I)V" } : Jvm.MethodName) prog_37_method_48_code (4 : Nat) (Option.none : Option Jvm.ClassFile.FieldType)) ∈ lw_all := lw_g (lw_at lw_m21 78 rfl) rfl
theorem q5304 : (Jvm.Cond.methodLink "TypeHouseModel" (524 : Nat) ({ cls := "TypeHouseModel", name := "roman", desc := "(I)V" } : Jvm.MethodName)) ∈ lw_all := lw_g (lw_at lw_m21 79 rfl) rfl
theorem q5306 : (Jvm.Cond.instanceMethod ({ cls := "TypeHouseModel", name := "roman", desc := "(I)V" } : Jvm.MethodName)) ∈ lw_all := lw_g (lw_at lw_m21 81 rfl) rfl
theorem q5307 : (Jvm.Cond.code ({ cls := "TypeHouseModel", name := "roman", desc := "(I)V" } : Jvm.MethodName) prog_37_method_50_code (3 : Nat) (Option.none : Option Jvm.ClassFile.FieldType)) ∈ lw_all := lw_g (lw_at lw_m21 82 rfl) rfl
theorem q5308 : (Jvm.Cond.methodLink "TypeHouseModel" (564 : Nat) ({ cls := "TypeHouseModel", name := "romanDigit", desc := "(IIII)V" } : Jvm.MethodName)) ∈ lw_all := lw_g (lw_at lw_m21 83 rfl) rfl
theorem q5310 : (Jvm.Cond.instanceMethod ({ cls := "TypeHouseModel", name := "romanDigit", desc := "(IIII)V" } : Jvm.MethodName)) ∈ lw_all := lw_g (lw_at lw_m21 85 rfl) rfl
theorem q5311 : (Jvm.Cond.code ({ cls := "TypeHouseModel", name := "romanDigit", desc := "(IIII)V" } : Jvm.MethodName) prog_37_method_49_code (6 : Nat) (Option.none : Option Jvm.ClassFile.FieldType)) ∈ lw_all := lw_g (lw_at lw_m21 86 rfl) rfl
theorem q5312 : (Jvm.Cond.methodLink "TypeHouseModel" (527 : Nat) ({ cls := "TypeHouseModel", name := "told", desc := "(I)V" } : Jvm.MethodName)) ∈ lw_all := lw_g (lw_at lw_m21 87 rfl) rfl
theorem q5314 : (Jvm.Cond.instanceMethod ({ cls := "TypeHouseModel", name := "told", desc := "(I)V" } : Jvm.MethodName)) ∈ lw_all := lw_g (lw_at lw_m21 89 rfl) rfl
theorem q5315 : (Jvm.Cond.code ({ cls := "TypeHouseModel", name := "told", desc := "(I)V" } : Jvm.MethodName) prog_37_method_44_code (3 : Nat) (Option.none : Option Jvm.ClassFile.FieldType)) ∈ lw_all := lw_g (lw_at lw_m21 90 rfl) rfl
theorem q5316 : (Jvm.Cond.methodLink "TypeHouseModel" (530 : Nat) ({ cls := "TypeHouseModel", name := "branch", desc := "(II)V" } : Jvm.MethodName)) ∈ lw_all := lw_g (lw_at lw_m21 91 rfl) rfl
theorem q5325 : (Jvm.Cond.methodLink "TypeHouseModel" (533 : Nat) ({ cls := "TypeHouseModel", name := "condition", desc := "(I)V" } : Jvm.MethodName)) ∈ lw_all := lw_g (lw_at lw_m21 100 rfl) rfl
theorem q5437 : (Jvm.Cond.methodLink "TypeHouseModel" (1269 : Nat) ({ cls := "TypeHouseModel", name := "done", desc := "(I)V" } : Jvm.MethodName)) ∈ lw_all := lw_g (lw_at lw_m21 212 rfl) rfl
theorem q5542 : (Jvm.Cond.methodLink "TypeHouseModel" (1009 : Nat) ({ cls := "TypeHouseModel", name := "placeOf", desc := "(II)J" } : Jvm.MethodName)) ∈ lw_all := lw_g (lw_at lw_m22 77 rfl) rfl
theorem q5544 : (Jvm.Cond.instanceMethod ({ cls := "TypeHouseModel", name := "placeOf", desc := "(II)J" } : Jvm.MethodName)) ∈ lw_all := lw_g (lw_at lw_m22 79 rfl) rfl
theorem q5545 : (Jvm.Cond.code ({ cls := "TypeHouseModel", name := "placeOf", desc := "(II)J" } : Jvm.MethodName) prog_37_method_142_code (10 : Nat) (Option.some Jvm.ClassFile.FieldType.long)) ∈ lw_all := lw_g (lw_at lw_m22 80 rfl) rfl
theorem q5571 : (Jvm.Cond.methodLink "TypeHouseModel" (1003 : Nat) ({ cls := "TypeHouseModel", name := "nearest", desc := "(JJ)J" } : Jvm.MethodName)) ∈ lw_all := lw_g (lw_at lw_m22 106 rfl) rfl
theorem q5572 : (Jvm.Cond.static ({ cls := "TypeHouseModel", name := "nearest", desc := "(JJ)J" } : Jvm.MethodName)) ∈ lw_all := lw_g (lw_at lw_m22 107 rfl) rfl
theorem q5573 : (Jvm.Cond.code ({ cls := "TypeHouseModel", name := "nearest", desc := "(JJ)J" } : Jvm.MethodName) prog_37_method_141_code (8 : Nat) (Option.some Jvm.ClassFile.FieldType.long)) ∈ lw_all := lw_g (lw_at lw_m22 108 rfl) rfl
theorem q5578 : (Jvm.Cond.methodLink "TypeHouseModel" (1017 : Nat) ({ cls := "TypeHouseModel", name := "ruled", desc := "(III)J" } : Jvm.MethodName)) ∈ lw_all := lw_g (lw_at lw_m22 113 rfl) rfl
theorem q5580 : (Jvm.Cond.instanceMethod ({ cls := "TypeHouseModel", name := "ruled", desc := "(III)J" } : Jvm.MethodName)) ∈ lw_all := lw_g (lw_at lw_m22 115 rfl) rfl
theorem q5581 : (Jvm.Cond.code ({ cls := "TypeHouseModel", name := "ruled", desc := "(III)J" } : Jvm.MethodName) prog_37_method_144_code (4 : Nat) (Option.some Jvm.ClassFile.FieldType.long)) ∈ lw_all := lw_g (lw_at lw_m22 116 rfl) rfl
theorem q6048 : (Jvm.Cond.methodLink "TypeHouseModel" (1272 : Nat) ({ cls := "TypeHouseModel$Device", name := "close", desc := "()V" } : Jvm.MethodName)) ∈ lw_all := lw_g (lw_at lw_m24 103 rfl) rfl
theorem q6049 : (Jvm.Cond.instanceMethod ({ cls := "TypeHouseModel$Device", name := "close", desc := "()V" } : Jvm.MethodName)) ∈ lw_all := lw_g (lw_at lw_m24 104 rfl) rfl
theorem q6050 : (Jvm.Cond.selects "TypeHouseModel$Device" ({ cls := "TypeHouseModel$Device", name := "close", desc := "()V" } : Jvm.MethodName) ({ cls := "TypeHouseModel$Device", name := "close", desc := "()V" } : Jvm.MethodName)) ∈ lw_all := lw_g (lw_at lw_m24 105 rfl) rfl
theorem q6051 : (Jvm.Cond.code ({ cls := "TypeHouseModel$Device", name := "close", desc := "()V" } : Jvm.MethodName) prog_39_method_17_code (3 : Nat) (Option.none : Option Jvm.ClassFile.FieldType)) ∈ lw_all := lw_g (lw_at lw_m24 106 rfl) rfl
abbrev cX36_readWords : ByteArray := prog_40_method_15_code
def yX36_readWords : MethodName := ⟨RX36, "readWords", "(Z)I"⟩
def YX36_readWords : eY := (yX36_readWords, cX36_readWords, 6, (Option.some FieldType.int), [])
theorem mX36_readWords : e_mv YX36_readWords RX36 1 := ⟨q5045, qs229, q5046, by decide, by decide +kernel, (e_sig (by decide +kernel))⟩
theorem dX36_readWords_0 : decode cX36_readWords 0 = .ok (.iconst 0, 1) := dc_3 (by decide +kernel)
theorem dX36_readWords_1 : decode cX36_readWords 1 = .ok (.istore_n 2, 1) := dc_61 (by decide +kernel)
theorem dX36_readWords_2 : decode cX36_readWords 2 = .ok (.aload_n 0, 1) := dc_42 (by decide +kernel)
theorem dX36_readWords_3 : decode cX36_readWords 3 = .ok (.iconst 0, 1) := dc_3 (by decide +kernel)
theorem dX36_readWords_4 : decode cX36_readWords 4 = .ok (.putfield 71, 3) := dc_181 (a := 0) (b := 71) (n := 71) (by decide +kernel)
theorem dX36_readWords_7 : decode cX36_readWords 7 = .ok (.aload_n 0, 1) := dc_42 (by decide +kernel)
theorem dX36_readWords_8 : decode cX36_readWords 8 = .ok (.invokevirtual 106, 3) := dc_182 (a := 0) (b := 106) (n := 106) (by decide +kernel)
theorem dX36_readWords_11 : decode cX36_readWords 11 = .ok (.aload_n 0, 1) := dc_42 (by decide +kernel)
theorem dX36_readWords_12 : decode cX36_readWords 12 = .ok (.getfield 71, 3) := dc_180 (a := 0) (b := 71) (n := 71) (by decide +kernel)
theorem dX36_readWords_15 : decode cX36_readWords 15 = .ok (.aload_n 0, 1) := dc_42 (by decide +kernel)
theorem dX36_readWords_16 : decode cX36_readWords 16 = .ok (.getfield 74, 3) := dc_180 (a := 0) (b := 74) (n := 74) (by decide +kernel)
theorem dX36_readWords_19 : decode cX36_readWords 19 = .ok (.if_icmp .ge 247, 3) := dc_162 (a := 0) (b := 247) (v := 247) (by decide +kernel)
theorem dX36_readWords_22 : decode cX36_readWords 22 = .ok (.aload_n 0, 1) := dc_42 (by decide +kernel)
theorem dX36_readWords_23 : decode cX36_readWords 23 = .ok (.getfield 71, 3) := dc_180 (a := 0) (b := 71) (n := 71) (by decide +kernel)
theorem dX36_readWords_26 : decode cX36_readWords 26 = .ok (.istore_n 3, 1) := dc_62 (by decide +kernel)
theorem dX36_readWords_27 : decode cX36_readWords 27 = .ok (.aload_n 0, 1) := dc_42 (by decide +kernel)
theorem dX36_readWords_28 : decode cX36_readWords 28 = .ok (.invokevirtual 128, 3) := dc_182 (a := 0) (b := 128) (n := 128) (by decide +kernel)
theorem dX36_readWords_31 : decode cX36_readWords 31 = .ok (.ifCond .ne 12, 3) := dc_154 (a := 0) (b := 12) (v := 12) (by decide +kernel)
theorem dX36_readWords_34 : decode cX36_readWords 34 = .ok (.iconst 1, 1) := dc_4 (by decide +kernel)
theorem dX36_readWords_35 : decode cX36_readWords 35 = .ok (.aload_n 0, 1) := dc_42 (by decide +kernel)
theorem dX36_readWords_36 : decode cX36_readWords 36 = .ok (.getfield 71, 3) := dc_180 (a := 0) (b := 71) (n := 71) (by decide +kernel)
theorem dX36_readWords_39 : decode cX36_readWords 39 = .ok (.invokestatic 112, 3) := dc_184 (a := 0) (b := 112) (n := 112) (by decide +kernel)
theorem dX36_readWords_42 : decode cX36_readWords 42 = .ok (.ireturn, 1) := dc_172 (by decide +kernel)
theorem dX36_readWords_43 : decode cX36_readWords 43 = .ok (.aload_n 0, 1) := dc_42 (by decide +kernel)
theorem dX36_readWords_44 : decode cX36_readWords 44 = .ok (.getfield 77, 3) := dc_180 (a := 0) (b := 77) (n := 77) (by decide +kernel)
theorem dX36_readWords_47 : decode cX36_readWords 47 = .ok (.bipush 63, 2) := dc_16 (a := 63) (v := 63) (by decide +kernel)
theorem dX36_readWords_49 : decode cX36_readWords 49 = .ok (.if_icmp .le 9, 3) := dc_164 (a := 0) (b := 9) (v := 9) (by decide +kernel)
theorem dX36_readWords_52 : decode cX36_readWords 52 = .ok (.iconst 2, 1) := dc_5 (by decide +kernel)
theorem dX36_readWords_53 : decode cX36_readWords 53 = .ok (.iload_n 3, 1) := dc_29 (by decide +kernel)
theorem dX36_readWords_54 : decode cX36_readWords 54 = .ok (.invokestatic 112, 3) := dc_184 (a := 0) (b := 112) (n := 112) (by decide +kernel)
theorem dX36_readWords_57 : decode cX36_readWords 57 = .ok (.ireturn, 1) := dc_172 (by decide +kernel)
theorem dX36_readWords_58 : decode cX36_readWords 58 = .ok (.aload_n 0, 1) := dc_42 (by decide +kernel)
theorem dX36_readWords_59 : decode cX36_readWords 59 = .ok (.aload_n 0, 1) := dc_42 (by decide +kernel)
theorem dX36_readWords_60 : decode cX36_readWords 60 = .ok (.getfield 52, 3) := dc_180 (a := 0) (b := 52) (n := 52) (by decide +kernel)
theorem dX36_readWords_63 : decode cX36_readWords 63 = .ok (.aload_n 0, 1) := dc_42 (by decide +kernel)
theorem dX36_readWords_64 : decode cX36_readWords 64 = .ok (.getfield 77, 3) := dc_180 (a := 0) (b := 77) (n := 77) (by decide +kernel)
theorem dX36_readWords_67 : decode cX36_readWords 67 = .ok (.invokevirtual 131, 3) := dc_182 (a := 0) (b := 131) (n := 131) (by decide +kernel)
theorem dX36_readWords_70 : decode cX36_readWords 70 = .ok (.istore 4, 2) := dc_54 (a := 4) (by decide +kernel)
theorem dX36_readWords_72 : decode cX36_readWords 72 = .ok (.iload 4, 2) := dc_21 (a := 4) (by decide +kernel)
theorem dX36_readWords_74 : decode cX36_readWords 74 = .ok (.ifCond .ge 138, 3) := dc_156 (a := 0) (b := 138) (v := 138) (by decide +kernel)
theorem dX36_readWords_77 : decode cX36_readWords 77 = .ok (.aload_n 0, 1) := dc_42 (by decide +kernel)
theorem dX36_readWords_78 : decode cX36_readWords 78 = .ok (.getfield 125, 3) := dc_180 (a := 0) (b := 125) (n := 125) (by decide +kernel)
theorem dX36_readWords_81 : decode cX36_readWords 81 = .ok (.sipush 300, 3) := dc_17 (a := 1) (b := 44) (v := 300) (by decide +kernel)
theorem dX36_readWords_84 : decode cX36_readWords 84 = .ok (.if_icmp .eq 23, 3) := dc_159 (a := 0) (b := 23) (v := 23) (by decide +kernel)
theorem dX36_readWords_87 : decode cX36_readWords 87 = .ok (.aload_n 0, 1) := dc_42 (by decide +kernel)
theorem dX36_readWords_88 : decode cX36_readWords 88 = .ok (.getfield 43, 3) := dc_180 (a := 0) (b := 43) (n := 43) (by decide +kernel)
theorem dX36_readWords_91 : decode cX36_readWords 91 = .ok (.aload_n 0, 1) := dc_42 (by decide +kernel)
theorem dX36_readWords_92 : decode cX36_readWords 92 = .ok (.getfield 125, 3) := dc_180 (a := 0) (b := 125) (n := 125) (by decide +kernel)
theorem dX36_readWords_95 : decode cX36_readWords 95 = .ok (.iaload, 1) := dc_46 (by decide +kernel)
theorem dX36_readWords_96 : decode cX36_readWords 96 = .ok (.aload_n 0, 1) := dc_42 (by decide +kernel)
theorem dX36_readWords_97 : decode cX36_readWords 97 = .ok (.getfield 77, 3) := dc_180 (a := 0) (b := 77) (n := 77) (by decide +kernel)
theorem dX36_readWords_100 : decode cX36_readWords 100 = .ok (.iadd, 1) := dc_96 (by decide +kernel)
theorem dX36_readWords_101 : decode cX36_readWords 101 = .ok (.sipush 8000, 3) := dc_17 (a := 31) (b := 64) (v := 8000) (by decide +kernel)
theorem dX36_readWords_104 : decode cX36_readWords 104 = .ok (.if_icmp .le 9, 3) := dc_164 (a := 0) (b := 9) (v := 9) (by decide +kernel)
theorem dX36_readWords_107 : decode cX36_readWords 107 = .ok (.iconst 4, 1) := dc_7 (by decide +kernel)
theorem dX36_readWords_108 : decode cX36_readWords 108 = .ok (.iload_n 3, 1) := dc_29 (by decide +kernel)
theorem dX36_readWords_109 : decode cX36_readWords 109 = .ok (.invokestatic 112, 3) := dc_184 (a := 0) (b := 112) (n := 112) (by decide +kernel)
theorem dX36_readWords_112 : decode cX36_readWords 112 = .ok (.ireturn, 1) := dc_172 (by decide +kernel)
theorem dX36_readWords_113 : decode cX36_readWords 113 = .ok (.aload_n 0, 1) := dc_42 (by decide +kernel)
theorem dX36_readWords_114 : decode cX36_readWords 114 = .ok (.getfield 125, 3) := dc_180 (a := 0) (b := 125) (n := 125) (by decide +kernel)
theorem dX36_readWords_117 : decode cX36_readWords 117 = .ok (.istore 4, 2) := dc_54 (a := 4) (by decide +kernel)
theorem dX36_readWords_119 : decode cX36_readWords 119 = .ok (.iconst 0, 1) := dc_3 (by decide +kernel)
theorem dX36_readWords_120 : decode cX36_readWords 120 = .ok (.istore 5, 2) := dc_54 (a := 5) (by decide +kernel)
theorem dX36_readWords_122 : decode cX36_readWords 122 = .ok (.iload 5, 2) := dc_21 (a := 5) (by decide +kernel)
theorem dX36_readWords_124 : decode cX36_readWords 124 = .ok (.aload_n 0, 1) := dc_42 (by decide +kernel)
theorem dX36_readWords_125 : decode cX36_readWords 125 = .ok (.getfield 77, 3) := dc_180 (a := 0) (b := 77) (n := 77) (by decide +kernel)
theorem dX36_readWords_128 : decode cX36_readWords 128 = .ok (.if_icmp .ge 53, 3) := dc_162 (a := 0) (b := 53) (v := 53) (by decide +kernel)
theorem dX36_readWords_131 : decode cX36_readWords 131 = .ok (.aload_n 0, 1) := dc_42 (by decide +kernel)
theorem dX36_readWords_132 : decode cX36_readWords 132 = .ok (.getfield 46, 3) := dc_180 (a := 0) (b := 46) (n := 46) (by decide +kernel)
theorem dX36_readWords_135 : decode cX36_readWords 135 = .ok (.aload_n 0, 1) := dc_42 (by decide +kernel)
theorem dX36_readWords_136 : decode cX36_readWords 136 = .ok (.getfield 43, 3) := dc_180 (a := 0) (b := 43) (n := 43) (by decide +kernel)
theorem dX36_readWords_139 : decode cX36_readWords 139 = .ok (.iload 4, 2) := dc_21 (a := 4) (by decide +kernel)
theorem dX36_readWords_141 : decode cX36_readWords 141 = .ok (.iaload, 1) := dc_46 (by decide +kernel)
theorem dX36_readWords_142 : decode cX36_readWords 142 = .ok (.iload 5, 2) := dc_21 (a := 5) (by decide +kernel)
theorem dX36_readWords_144 : decode cX36_readWords 144 = .ok (.iadd, 1) := dc_96 (by decide +kernel)
theorem dX36_readWords_145 : decode cX36_readWords 145 = .ok (.aload_n 0, 1) := dc_42 (by decide +kernel)
theorem dX36_readWords_146 : decode cX36_readWords 146 = .ok (.getfield 52, 3) := dc_180 (a := 0) (b := 52) (n := 52) (by decide +kernel)
theorem dX36_readWords_149 : decode cX36_readWords 149 = .ok (.iload 5, 2) := dc_21 (a := 5) (by decide +kernel)
theorem dX36_readWords_151 : decode cX36_readWords 151 = .ok (.iaload, 1) := dc_46 (by decide +kernel)
theorem dX36_readWords_152 : decode cX36_readWords 152 = .ok (.iastore, 1) := dc_79 (by decide +kernel)
theorem dX36_readWords_153 : decode cX36_readWords 153 = .ok (.aload_n 0, 1) := dc_42 (by decide +kernel)
theorem dX36_readWords_154 : decode cX36_readWords 154 = .ok (.getfield 49, 3) := dc_180 (a := 0) (b := 49) (n := 49) (by decide +kernel)
theorem dX36_readWords_157 : decode cX36_readWords 157 = .ok (.aload_n 0, 1) := dc_42 (by decide +kernel)
theorem dX36_readWords_158 : decode cX36_readWords 158 = .ok (.getfield 43, 3) := dc_180 (a := 0) (b := 43) (n := 43) (by decide +kernel)
theorem dX36_readWords_161 : decode cX36_readWords 161 = .ok (.iload 4, 2) := dc_21 (a := 4) (by decide +kernel)
theorem dX36_readWords_163 : decode cX36_readWords 163 = .ok (.iaload, 1) := dc_46 (by decide +kernel)
theorem dX36_readWords_164 : decode cX36_readWords 164 = .ok (.iload 5, 2) := dc_21 (a := 5) (by decide +kernel)
theorem dX36_readWords_166 : decode cX36_readWords 166 = .ok (.iadd, 1) := dc_96 (by decide +kernel)
theorem dX36_readWords_167 : decode cX36_readWords 167 = .ok (.aload_n 0, 1) := dc_42 (by decide +kernel)
theorem dX36_readWords_168 : decode cX36_readWords 168 = .ok (.getfield 59, 3) := dc_180 (a := 0) (b := 59) (n := 59) (by decide +kernel)
theorem dX36_readWords_171 : decode cX36_readWords 171 = .ok (.iload 5, 2) := dc_21 (a := 5) (by decide +kernel)
theorem dX36_readWords_173 : decode cX36_readWords 173 = .ok (.baload, 1) := dc_51 (by decide +kernel)
theorem dX36_readWords_174 : decode cX36_readWords 174 = .ok (.bastore, 1) := dc_84 (by decide +kernel)
theorem dX36_readWords_175 : decode cX36_readWords 175 = .ok (.iinc 5 1, 3) := dc_132 (a := 5) (b := 1) (v := 1) (by decide +kernel)
theorem dX36_readWords_178 : decode cX36_readWords 178 = .ok (.goto (-56), 3) := dc_167 (a := 255) (b := 200) (v := -56) (by decide +kernel)
theorem dX36_readWords_181 : decode cX36_readWords 181 = .ok (.aload_n 0, 1) := dc_42 (by decide +kernel)
theorem dX36_readWords_182 : decode cX36_readWords 182 = .ok (.dup, 1) := dc_89 (by decide +kernel)
theorem dX36_readWords_183 : decode cX36_readWords 183 = .ok (.getfield 125, 3) := dc_180 (a := 0) (b := 125) (n := 125) (by decide +kernel)
theorem dX36_readWords_186 : decode cX36_readWords 186 = .ok (.iconst 1, 1) := dc_4 (by decide +kernel)
theorem dX36_readWords_187 : decode cX36_readWords 187 = .ok (.iadd, 1) := dc_96 (by decide +kernel)
theorem dX36_readWords_188 : decode cX36_readWords 188 = .ok (.putfield 125, 3) := dc_181 (a := 0) (b := 125) (n := 125) (by decide +kernel)
theorem dX36_readWords_191 : decode cX36_readWords 191 = .ok (.aload_n 0, 1) := dc_42 (by decide +kernel)
theorem dX36_readWords_192 : decode cX36_readWords 192 = .ok (.getfield 43, 3) := dc_180 (a := 0) (b := 43) (n := 43) (by decide +kernel)
theorem dX36_readWords_195 : decode cX36_readWords 195 = .ok (.aload_n 0, 1) := dc_42 (by decide +kernel)
theorem dX36_readWords_196 : decode cX36_readWords 196 = .ok (.getfield 125, 3) := dc_180 (a := 0) (b := 125) (n := 125) (by decide +kernel)
theorem dX36_readWords_199 : decode cX36_readWords 199 = .ok (.aload_n 0, 1) := dc_42 (by decide +kernel)
theorem dX36_readWords_200 : decode cX36_readWords 200 = .ok (.getfield 43, 3) := dc_180 (a := 0) (b := 43) (n := 43) (by decide +kernel)
theorem dX36_readWords_203 : decode cX36_readWords 203 = .ok (.iload 4, 2) := dc_21 (a := 4) (by decide +kernel)
theorem dX36_readWords_205 : decode cX36_readWords 205 = .ok (.iaload, 1) := dc_46 (by decide +kernel)
theorem dX36_readWords_206 : decode cX36_readWords 206 = .ok (.aload_n 0, 1) := dc_42 (by decide +kernel)
theorem dX36_readWords_207 : decode cX36_readWords 207 = .ok (.getfield 77, 3) := dc_180 (a := 0) (b := 77) (n := 77) (by decide +kernel)
theorem dX36_readWords_210 : decode cX36_readWords 210 = .ok (.iadd, 1) := dc_96 (by decide +kernel)
theorem dX36_readWords_211 : decode cX36_readWords 211 = .ok (.iastore, 1) := dc_79 (by decide +kernel)
theorem dX36_readWords_212 : decode cX36_readWords 212 = .ok (.iconst 0, 1) := dc_3 (by decide +kernel)
theorem dX36_readWords_213 : decode cX36_readWords 213 = .ok (.istore 5, 2) := dc_54 (a := 5) (by decide +kernel)
theorem dX36_readWords_215 : decode cX36_readWords 215 = .ok (.iload 5, 2) := dc_21 (a := 5) (by decide +kernel)
theorem dX36_readWords_217 : decode cX36_readWords 217 = .ok (.aload_n 0, 1) := dc_42 (by decide +kernel)
theorem dX36_readWords_218 : decode cX36_readWords 218 = .ok (.getfield 77, 3) := dc_180 (a := 0) (b := 77) (n := 77) (by decide +kernel)
theorem dX36_readWords_221 : decode cX36_readWords 221 = .ok (.if_icmp .ge 35, 3) := dc_162 (a := 0) (b := 35) (v := 35) (by decide +kernel)
theorem dX36_readWords_224 : decode cX36_readWords 224 = .ok (.iload_n 1, 1) := dc_27 (by decide +kernel)
theorem dX36_readWords_225 : decode cX36_readWords 225 = .ok (.ifCond .eq 31, 3) := dc_153 (a := 0) (b := 31) (v := 31) (by decide +kernel)
theorem dX36_readWords_228 : decode cX36_readWords 228 = .ok (.aload_n 0, 1) := dc_42 (by decide +kernel)
theorem dX36_readWords_229 : decode cX36_readWords 229 = .ok (.getfield 49, 3) := dc_180 (a := 0) (b := 49) (n := 49) (by decide +kernel)
theorem dX36_readWords_232 : decode cX36_readWords 232 = .ok (.aload_n 0, 1) := dc_42 (by decide +kernel)
theorem dX36_readWords_233 : decode cX36_readWords 233 = .ok (.getfield 43, 3) := dc_180 (a := 0) (b := 43) (n := 43) (by decide +kernel)
theorem dX36_readWords_236 : decode cX36_readWords 236 = .ok (.iload 4, 2) := dc_21 (a := 4) (by decide +kernel)
theorem dX36_readWords_238 : decode cX36_readWords 238 = .ok (.iaload, 1) := dc_46 (by decide +kernel)
theorem dX36_readWords_239 : decode cX36_readWords 239 = .ok (.iload 5, 2) := dc_21 (a := 5) (by decide +kernel)
theorem dX36_readWords_241 : decode cX36_readWords 241 = .ok (.iadd, 1) := dc_96 (by decide +kernel)
theorem dX36_readWords_242 : decode cX36_readWords 242 = .ok (.aload_n 0, 1) := dc_42 (by decide +kernel)
theorem dX36_readWords_243 : decode cX36_readWords 243 = .ok (.getfield 59, 3) := dc_180 (a := 0) (b := 59) (n := 59) (by decide +kernel)
theorem dX36_readWords_246 : decode cX36_readWords 246 = .ok (.iload 5, 2) := dc_21 (a := 5) (by decide +kernel)
theorem dX36_readWords_248 : decode cX36_readWords 248 = .ok (.baload, 1) := dc_51 (by decide +kernel)
theorem dX36_readWords_249 : decode cX36_readWords 249 = .ok (.bastore, 1) := dc_84 (by decide +kernel)
theorem dX36_readWords_250 : decode cX36_readWords 250 = .ok (.iinc 5 1, 3) := dc_132 (a := 5) (b := 1) (v := 1) (by decide +kernel)
theorem dX36_readWords_253 : decode cX36_readWords 253 = .ok (.goto (-38), 3) := dc_167 (a := 255) (b := 218) (v := -38) (by decide +kernel)
theorem dX36_readWords_256 : decode cX36_readWords 256 = .ok (.iinc 2 1, 3) := dc_132 (a := 2) (b := 1) (v := 1) (by decide +kernel)
theorem dX36_readWords_259 : decode cX36_readWords 259 = .ok (.aload_n 0, 1) := dc_42 (by decide +kernel)
theorem dX36_readWords_260 : decode cX36_readWords 260 = .ok (.invokevirtual 106, 3) := dc_182 (a := 0) (b := 106) (n := 106) (by decide +kernel)
theorem dX36_readWords_263 : decode cX36_readWords 263 = .ok (.goto (-252), 3) := dc_167 (a := 255) (b := 4) (v := -252) (by decide +kernel)
theorem dX36_readWords_266 : decode cX36_readWords 266 = .ok (.iload_n 2, 1) := dc_28 (by decide +kernel)
theorem dX36_readWords_267 : decode cX36_readWords 267 = .ok (.ireturn, 1) := dc_172 (by decide +kernel)
def fX36_readWords_b107 (N : Nat) (l3 : Int32) (h : eH) : Option (Int32 × eH) :=
  (fX36_fault (4 : Int32) l3 h).bind fun q1 =>
  some (q1.1, q1.2)
theorem pX36_readWords_b107 {w : eW} {d : Nat} (hd : 2 ≤ d + 1) {N : Nat} {l3 : Int32} {h : eH} {q} (hf : fX36_readWords_b107 N l3 h = some q) : wp w (d + 1) YX36_readWords 107 [none, none, none, some (.int l3), none, none] [] h (e_is (e_rn c_I q)) := by
  unfold fX36_readWords_b107 at hf
  refine w_iconst dX36_readWords_107 (v := 4) (by decide) ?_
  refine w_iload_n dX36_readWords_108 rfl rfl ?_
  refine x_cnI hf (e_stS (Yc := YX36_fault) (av := [.int (4 : Int32), .int l3]) (st := []) dX36_readWords_109 q5027 mX36_fault) mX36_fault.2.2.1 mX36_fault.2.2.2.2.1 (Nat.le_of_ble_eq_true rfl) (Nat.le_of_ble_eq_true rfl) (fun q hq => pX36_fault (by omega) hq) (fun q1 hf => ?_)
  cases hf
  exact w_iret dX36_readWords_112 rfl rfl rfl
def fX36_readWords_b256 (N : Nat) (k11 : Nat → Int32 → Int32 → eH → Option (Int32 × eH)) (l0 : Nat) (l1 : Int32) (l2 : Int32) (h : eH) : Option (Int32 × eH) :=
  (k_ok 35 h l0).bind fun _ =>
  (fX36_spaces N l0 h).bind fun q2 =>
  k11 l0 l1 (l2 + (1 : Int32)) q2.2
theorem pX36_readWords_b256 {w : eW} {d : Nat} (hd : 2 ≤ d + 1) {N : Nat} {k11 : Nat → Int32 → Int32 → eH → Option (Int32 × eH)} (hk11 : ∀ l0 l1 l2 h q, k11 l0 l1 l2 h = some q → wp w (d + 1) YX36_readWords 11 [some (.ref l0), some (.int l1), some (.int l2), none, none, none] [] h (e_is (e_rn c_I q))) {l0 : Nat} {l1 : Int32} {l2 : Int32} {h : eH} {q} (hf : fX36_readWords_b256 N k11 l0 l1 l2 h = some q) : wp w (d + 1) YX36_readWords 256 [some (.ref l0), some (.int l1), some (.int l2), none, none, none] [] h (e_is (e_rn c_I q)) := by
  unfold fX36_readWords_b256 at hf
  refine w_iinc dX36_readWords_256 (v := (l2 + (1 : Int32))) rfl rfl (by decide) (ls' := [some (.ref l0), some (.int l1), some (.int (l2 + (1 : Int32))), none, none, none]) rfl ?_
  refine w_aload_n dX36_readWords_259 rfl rfl ?_
  obtain ⟨_, b1, hf⟩ := Option.bind_eq_some_iff.mp hf
  refine x_cnV hf (e_stV (Yc := YX36_spaces) (ci := 35) (av := []) (st := []) dX36_readWords_260 q5004 mX36_spaces rfl (k_ok_some b1).1 (k_ok_some b1).2) mX36_spaces.2.2.1 mX36_spaces.2.2.2.2.1 (Nat.le_of_ble_eq_true rfl) (Nat.le_of_ble_eq_true rfl) (fun q hq => pX36_spaces (by omega) hq) (fun q2 hf => ?_)
  refine w_goto 11 dX36_readWords_263 (by decide) ?_
  exact (hk11 _ _ _ _ _ hf).to ⟨rfl, rfl, rfl, trivial⟩
def fX36_readWords_b215 (N : Nat) (k11 : Nat → Int32 → Int32 → eH → Option (Int32 × eH)) : Nat → Nat → Int32 → Int32 → Int32 → Int32 → eH → Option (Int32 × eH)
  | 0, _, _, _, _, _, _ => none
  | n + 1, l0, l1, l2, l4, l5, h =>
    (g_I 35 h l0 17).bind fun x1 =>
    if x1 ≤ l5 then
      fX36_readWords_b256 N k11 l0 l1 l2 h
    else
      if l1 = 0 then
        fX36_readWords_b256 N k11 l0 l1 l2 h
      else
        (g_A 35 h l0 15).bind fun a5 =>
        (g_A 35 h l0 13).bind fun a7 =>
        (r_I 100 h a7 l4).bind fun x9 =>
        (g_A 35 h l0 22).bind fun a11 =>
        (r_I 103 h a11 l5).bind fun x13 =>
        (q_V 103 h a5 (x9 + l5) (.int (x13 &&& 1))).bind fun h15 =>
        fX36_readWords_b215 N k11 n l0 l1 l2 l4 (l5 + (1 : Int32)) h15
theorem pX36_readWords_b215 {w : eW} {d : Nat} (hd : 2 ≤ d + 1) {N : Nat} {k11 : Nat → Int32 → Int32 → eH → Option (Int32 × eH)} (hk11 : ∀ l0 l1 l2 h q, k11 l0 l1 l2 h = some q → wp w (d + 1) YX36_readWords 11 [some (.ref l0), some (.int l1), some (.int l2), none, none, none] [] h (e_is (e_rn c_I q))) : ∀ (n : Nat) l0 l1 l2 l4 l5 h q, fX36_readWords_b215 N k11 n l0 l1 l2 l4 l5 h = some q → wp w (d + 1) YX36_readWords 215 [some (.ref l0), some (.int l1), some (.int l2), none, some (.int l4), some (.int l5)] [] h (e_is (e_rn c_I q)) := by
  intro n
  induction n with
  | zero => intro l0 l1 l2 l4 l5 h q hf; simp [fX36_readWords_b215] at hf
  | succ n ih =>
    intro l0 l1 l2 l4 l5 h q hf
    rw [fX36_readWords_b215] at hf
    refine w_iload dX36_readWords_215 rfl ?_
    refine w_aload_n dX36_readWords_217 rfl rfl ?_
    obtain ⟨x1, b2, hf⟩ := Option.bind_eq_some_iff.mp hf
    refine GX36_77 b2 dX36_readWords_218 rfl ?_
    refine w_icmp_ge 256 dX36_readWords_221 (by decide) (fun c3 => ?_) (fun c3 => ?_)
    · replace hf := (if_pos (show x1 ≤ l5 from c3)).symm.trans hf
      exact (pX36_readWords_b256 hd hk11 hf).to ⟨rfl, rfl, rfl, trivial⟩
    · replace hf := (if_neg (show ¬ (x1 ≤ l5) from c3)).symm.trans hf
      refine w_iload_n dX36_readWords_224 rfl rfl ?_
      refine w_if_eq 256 dX36_readWords_225 (by decide) (fun c4 => ?_) (fun c4 => ?_)
      · replace hf := (if_pos (show l1 = 0 from c4)).symm.trans hf
        exact (pX36_readWords_b256 hd hk11 hf).to ⟨rfl, rfl, rfl, trivial⟩
      · replace hf := (if_neg (show ¬ (l1 = 0) from c4)).symm.trans hf
        refine w_aload_n dX36_readWords_228 rfl rfl ?_
        obtain ⟨a5, b6, hf⟩ := Option.bind_eq_some_iff.mp hf
        refine GX36_49 b6 dX36_readWords_229 rfl ?_
        refine w_aload_n dX36_readWords_232 rfl rfl ?_
        obtain ⟨a7, b8, hf⟩ := Option.bind_eq_some_iff.mp hf
        refine GX36_43 b8 dX36_readWords_233 rfl ?_
        refine w_iload dX36_readWords_236 rfl ?_
        obtain ⟨x9, b10, hf⟩ := Option.bind_eq_some_iff.mp hf
        refine x_rI b10 dX36_readWords_238 ?_
        refine w_iload dX36_readWords_239 rfl ?_
        refine w_iadd dX36_readWords_241 ?_
        refine w_aload_n dX36_readWords_242 rfl rfl ?_
        obtain ⟨a11, b12, hf⟩ := Option.bind_eq_some_iff.mp hf
        refine GX36_59 b12 dX36_readWords_243 rfl ?_
        refine w_iload dX36_readWords_246 rfl ?_
        obtain ⟨x13, b14, hf⟩ := Option.bind_eq_some_iff.mp hf
        refine x_rZ b14 dX36_readWords_248 ?_
        obtain ⟨h15, b16, hf⟩ := Option.bind_eq_some_iff.mp hf
        refine x_qZ b16 dX36_readWords_249 ?_
        refine w_iinc dX36_readWords_250 (v := (l5 + (1 : Int32))) rfl rfl (by decide) (ls' := [some (.ref l0), some (.int l1), some (.int l2), none, some (.int l4), some (.int (l5 + (1 : Int32)))]) rfl ?_
        refine w_goto 215 dX36_readWords_253 (by decide) ?_
        exact (ih _ _ _ _ _ _ _ hf).to ⟨rfl, rfl, rfl, rfl, rfl, trivial⟩
def fX36_readWords_b212 (N : Nat) (k11 : Nat → Int32 → Int32 → eH → Option (Int32 × eH)) (l0 : Nat) (l1 : Int32) (l2 : Int32) (l4 : Int32) (h : eH) : Option (Int32 × eH) :=
  fX36_readWords_b215 N k11 N l0 l1 l2 l4 (0 : Int32) h
theorem pX36_readWords_b212 {w : eW} {d : Nat} (hd : 2 ≤ d + 1) {N : Nat} {k11 : Nat → Int32 → Int32 → eH → Option (Int32 × eH)} (hk11 : ∀ l0 l1 l2 h q, k11 l0 l1 l2 h = some q → wp w (d + 1) YX36_readWords 11 [some (.ref l0), some (.int l1), some (.int l2), none, none, none] [] h (e_is (e_rn c_I q))) {l0 : Nat} {l1 : Int32} {l2 : Int32} {l4 : Int32} {h : eH} {q} (hf : fX36_readWords_b212 N k11 l0 l1 l2 l4 h = some q) : wp w (d + 1) YX36_readWords 212 [some (.ref l0), some (.int l1), some (.int l2), none, some (.int l4), none] [] h (e_is (e_rn c_I q)) := by
  unfold fX36_readWords_b212 at hf
  refine w_iconst dX36_readWords_212 (v := 0) (by decide) ?_
  refine w_istore dX36_readWords_213 (by decide) (ls' := [some (.ref l0), some (.int l1), some (.int l2), none, some (.int l4), some (.int (0 : Int32))]) rfl ?_
  exact (pX36_readWords_b215 hd hk11 N _ _ _ _ _ _ _ hf).to ⟨rfl, rfl, rfl, rfl, rfl, trivial⟩
def fX36_readWords_b122 (N : Nat) (k11 : Nat → Int32 → Int32 → eH → Option (Int32 × eH)) : Nat → Nat → Int32 → Int32 → Int32 → Int32 → eH → Option (Int32 × eH)
  | 0, _, _, _, _, _, _ => none
  | n + 1, l0, l1, l2, l4, l5, h =>
    (g_I 35 h l0 17).bind fun x1 =>
    if x1 ≤ l5 then
      (g_I 35 h l0 12).bind fun x4 =>
      (p_V 35 h l0 12 (.int (x4 + (1 : Int32)))).bind fun h6 =>
      (g_A 35 h6 l0 13).bind fun a8 =>
      (g_I 35 h6 l0 12).bind fun x10 =>
      (g_A 35 h6 l0 13).bind fun a12 =>
      (r_I 100 h6 a12 l4).bind fun x14 =>
      (g_I 35 h6 l0 17).bind fun x16 =>
      (q_V 100 h6 a8 x10 (.int (x14 + x16))).bind fun h18 =>
      fX36_readWords_b212 N k11 l0 l1 l2 l4 h18
    else
      (g_A 35 h l0 14).bind fun a20 =>
      (g_A 35 h l0 13).bind fun a22 =>
      (r_I 100 h a22 l4).bind fun x24 =>
      (g_A 35 h l0 20).bind fun a26 =>
      (r_I 100 h a26 l5).bind fun x28 =>
      (q_V 100 h a20 (x24 + l5) (.int x28)).bind fun h30 =>
      (g_A 35 h30 l0 15).bind fun a32 =>
      (g_A 35 h30 l0 13).bind fun a34 =>
      (r_I 100 h30 a34 l4).bind fun x36 =>
      (g_A 35 h30 l0 22).bind fun a38 =>
      (r_I 103 h30 a38 l5).bind fun x40 =>
      (q_V 103 h30 a32 (x36 + l5) (.int (x40 &&& 1))).bind fun h42 =>
      fX36_readWords_b122 N k11 n l0 l1 l2 l4 (l5 + (1 : Int32)) h42
theorem pX36_readWords_b122 {w : eW} {d : Nat} (hd : 2 ≤ d + 1) {N : Nat} {k11 : Nat → Int32 → Int32 → eH → Option (Int32 × eH)} (hk11 : ∀ l0 l1 l2 h q, k11 l0 l1 l2 h = some q → wp w (d + 1) YX36_readWords 11 [some (.ref l0), some (.int l1), some (.int l2), none, none, none] [] h (e_is (e_rn c_I q))) : ∀ (n : Nat) l0 l1 l2 l4 l5 h q, fX36_readWords_b122 N k11 n l0 l1 l2 l4 l5 h = some q → wp w (d + 1) YX36_readWords 122 [some (.ref l0), some (.int l1), some (.int l2), none, some (.int l4), some (.int l5)] [] h (e_is (e_rn c_I q)) := by
  intro n
  induction n with
  | zero => intro l0 l1 l2 l4 l5 h q hf; simp [fX36_readWords_b122] at hf
  | succ n ih =>
    intro l0 l1 l2 l4 l5 h q hf
    rw [fX36_readWords_b122] at hf
    refine w_iload dX36_readWords_122 rfl ?_
    refine w_aload_n dX36_readWords_124 rfl rfl ?_
    obtain ⟨x1, b2, hf⟩ := Option.bind_eq_some_iff.mp hf
    refine GX36_77 b2 dX36_readWords_125 rfl ?_
    refine w_icmp_ge 181 dX36_readWords_128 (by decide) (fun c3 => ?_) (fun c3 => ?_)
    · replace hf := (if_pos (show x1 ≤ l5 from c3)).symm.trans hf
      refine w_aload_n dX36_readWords_181 rfl rfl ?_
      refine w_dup dX36_readWords_182 rfl ?_
      obtain ⟨x4, b5, hf⟩ := Option.bind_eq_some_iff.mp hf
      refine GX36_125 b5 dX36_readWords_183 rfl ?_
      refine w_iconst dX36_readWords_186 (v := 1) (by decide) ?_
      refine w_iadd dX36_readWords_187 ?_
      obtain ⟨h6, b7, hf⟩ := Option.bind_eq_some_iff.mp hf
      refine SX36_125 b7 dX36_readWords_188 rfl ?_
      refine w_aload_n dX36_readWords_191 rfl rfl ?_
      obtain ⟨a8, b9, hf⟩ := Option.bind_eq_some_iff.mp hf
      refine GX36_43 b9 dX36_readWords_192 rfl ?_
      refine w_aload_n dX36_readWords_195 rfl rfl ?_
      obtain ⟨x10, b11, hf⟩ := Option.bind_eq_some_iff.mp hf
      refine GX36_125 b11 dX36_readWords_196 rfl ?_
      refine w_aload_n dX36_readWords_199 rfl rfl ?_
      obtain ⟨a12, b13, hf⟩ := Option.bind_eq_some_iff.mp hf
      refine GX36_43 b13 dX36_readWords_200 rfl ?_
      refine w_iload dX36_readWords_203 rfl ?_
      obtain ⟨x14, b15, hf⟩ := Option.bind_eq_some_iff.mp hf
      refine x_rI b15 dX36_readWords_205 ?_
      refine w_aload_n dX36_readWords_206 rfl rfl ?_
      obtain ⟨x16, b17, hf⟩ := Option.bind_eq_some_iff.mp hf
      refine GX36_77 b17 dX36_readWords_207 rfl ?_
      refine w_iadd dX36_readWords_210 ?_
      obtain ⟨h18, b19, hf⟩ := Option.bind_eq_some_iff.mp hf
      refine x_qI b19 dX36_readWords_211 ?_
      exact (pX36_readWords_b212 hd hk11 hf).to ⟨rfl, rfl, rfl, rfl, trivial⟩
    · replace hf := (if_neg (show ¬ (x1 ≤ l5) from c3)).symm.trans hf
      refine w_aload_n dX36_readWords_131 rfl rfl ?_
      obtain ⟨a20, b21, hf⟩ := Option.bind_eq_some_iff.mp hf
      refine GX36_46 b21 dX36_readWords_132 rfl ?_
      refine w_aload_n dX36_readWords_135 rfl rfl ?_
      obtain ⟨a22, b23, hf⟩ := Option.bind_eq_some_iff.mp hf
      refine GX36_43 b23 dX36_readWords_136 rfl ?_
      refine w_iload dX36_readWords_139 rfl ?_
      obtain ⟨x24, b25, hf⟩ := Option.bind_eq_some_iff.mp hf
      refine x_rI b25 dX36_readWords_141 ?_
      refine w_iload dX36_readWords_142 rfl ?_
      refine w_iadd dX36_readWords_144 ?_
      refine w_aload_n dX36_readWords_145 rfl rfl ?_
      obtain ⟨a26, b27, hf⟩ := Option.bind_eq_some_iff.mp hf
      refine GX36_52 b27 dX36_readWords_146 rfl ?_
      refine w_iload dX36_readWords_149 rfl ?_
      obtain ⟨x28, b29, hf⟩ := Option.bind_eq_some_iff.mp hf
      refine x_rI b29 dX36_readWords_151 ?_
      obtain ⟨h30, b31, hf⟩ := Option.bind_eq_some_iff.mp hf
      refine x_qI b31 dX36_readWords_152 ?_
      refine w_aload_n dX36_readWords_153 rfl rfl ?_
      obtain ⟨a32, b33, hf⟩ := Option.bind_eq_some_iff.mp hf
      refine GX36_49 b33 dX36_readWords_154 rfl ?_
      refine w_aload_n dX36_readWords_157 rfl rfl ?_
      obtain ⟨a34, b35, hf⟩ := Option.bind_eq_some_iff.mp hf
      refine GX36_43 b35 dX36_readWords_158 rfl ?_
      refine w_iload dX36_readWords_161 rfl ?_
      obtain ⟨x36, b37, hf⟩ := Option.bind_eq_some_iff.mp hf
      refine x_rI b37 dX36_readWords_163 ?_
      refine w_iload dX36_readWords_164 rfl ?_
      refine w_iadd dX36_readWords_166 ?_
      refine w_aload_n dX36_readWords_167 rfl rfl ?_
      obtain ⟨a38, b39, hf⟩ := Option.bind_eq_some_iff.mp hf
      refine GX36_59 b39 dX36_readWords_168 rfl ?_
      refine w_iload dX36_readWords_171 rfl ?_
      obtain ⟨x40, b41, hf⟩ := Option.bind_eq_some_iff.mp hf
      refine x_rZ b41 dX36_readWords_173 ?_
      obtain ⟨h42, b43, hf⟩ := Option.bind_eq_some_iff.mp hf
      refine x_qZ b43 dX36_readWords_174 ?_
      refine w_iinc dX36_readWords_175 (v := (l5 + (1 : Int32))) rfl rfl (by decide) (ls' := [some (.ref l0), some (.int l1), some (.int l2), none, some (.int l4), some (.int (l5 + (1 : Int32)))]) rfl ?_
      refine w_goto 122 dX36_readWords_178 (by decide) ?_
      exact (ih _ _ _ _ _ _ _ hf).to ⟨rfl, rfl, rfl, rfl, rfl, trivial⟩
def fX36_readWords_b11 (N : Nat) : Nat → Nat → Int32 → Int32 → eH → Option (Int32 × eH)
  | 0, _, _, _, _ => none
  | n + 1, l0, l1, l2, h =>
    (g_I 35 h l0 16).bind fun x1 =>
    (g_I 35 h l0 3).bind fun x3 =>
    if x3 ≤ x1 then
      some (l2, h)
    else
      (g_I 35 h l0 16).bind fun x6 =>
      (k_ok 35 h l0).bind fun _ =>
      (fX36_readWord N l0 h).bind fun q9 =>
      if ¬ q9.1 = 0 then
        (g_I 35 q9.2 l0 17).bind fun x11 =>
        if x11 ≤ (63 : Int32) then
          (g_A 35 q9.2 l0 20).bind fun a14 =>
          (g_I 35 q9.2 l0 17).bind fun x16 =>
          (k_ok 35 q9.2 l0).bind fun _ =>
          (fX36_toldAt N l0 a14 x16 q9.2).bind fun q19 =>
          if 0 ≤ q19.1 then
            fX36_readWords_b212 N (fX36_readWords_b11 N n) l0 l1 l2 q19.1 q19.2
          else
            (g_I 35 q19.2 l0 12).bind fun x21 =>
            if x21 = (300 : Int32) then
              fX36_readWords_b107 N x6 q19.2
            else
              (g_A 35 q19.2 l0 13).bind fun a24 =>
              (g_I 35 q19.2 l0 12).bind fun x26 =>
              (r_I 100 q19.2 a24 x26).bind fun x28 =>
              (g_I 35 q19.2 l0 17).bind fun x30 =>
              if (x28 + x30) ≤ (8000 : Int32) then
                (g_I 35 q19.2 l0 12).bind fun x33 =>
                fX36_readWords_b122 N (fX36_readWords_b11 N n) N l0 l1 l2 x33 (0 : Int32) q19.2
              else
                fX36_readWords_b107 N x6 q19.2
        else
          (fX36_fault (2 : Int32) x6 q9.2).bind fun q35 =>
          some (q35.1, q35.2)
      else
        (g_I 35 q9.2 l0 16).bind fun x36 =>
        (fX36_fault (1 : Int32) x36 q9.2).bind fun q38 =>
        some (q38.1, q38.2)
theorem pX36_readWords_b11 {w : eW} {d : Nat} (hd : 2 ≤ d + 1) {N : Nat} : ∀ (n : Nat) l0 l1 l2 h q, fX36_readWords_b11 N n l0 l1 l2 h = some q → wp w (d + 1) YX36_readWords 11 [some (.ref l0), some (.int l1), some (.int l2), none, none, none] [] h (e_is (e_rn c_I q)) := by
  intro n
  induction n with
  | zero => intro l0 l1 l2 h q hf; simp [fX36_readWords_b11] at hf
  | succ n ih =>
    intro l0 l1 l2 h q hf
    rw [fX36_readWords_b11] at hf
    refine w_aload_n dX36_readWords_11 rfl rfl ?_
    obtain ⟨x1, b2, hf⟩ := Option.bind_eq_some_iff.mp hf
    refine GX36_71 b2 dX36_readWords_12 rfl ?_
    refine w_aload_n dX36_readWords_15 rfl rfl ?_
    obtain ⟨x3, b4, hf⟩ := Option.bind_eq_some_iff.mp hf
    refine GX36_74 b4 dX36_readWords_16 rfl ?_
    refine w_icmp_ge 266 dX36_readWords_19 (by decide) (fun c5 => ?_) (fun c5 => ?_)
    · replace hf := (if_pos (show x3 ≤ x1 from c5)).symm.trans hf
      refine w_iload_n dX36_readWords_266 rfl rfl ?_
      cases hf
      exact w_iret dX36_readWords_267 rfl rfl rfl
    · replace hf := (if_neg (show ¬ (x3 ≤ x1) from c5)).symm.trans hf
      refine w_aload_n dX36_readWords_22 rfl rfl ?_
      obtain ⟨x6, b7, hf⟩ := Option.bind_eq_some_iff.mp hf
      refine GX36_71 b7 dX36_readWords_23 rfl ?_
      refine w_istore_n dX36_readWords_26 rfl (by decide) (ls' := [some (.ref l0), some (.int l1), some (.int l2), some (.int x6), none, none]) rfl ?_
      refine w_aload_n dX36_readWords_27 rfl rfl ?_
      obtain ⟨_, b8, hf⟩ := Option.bind_eq_some_iff.mp hf
      refine x_cnI hf (e_stV (Yc := YX36_readWord) (ci := 35) (av := []) (st := []) dX36_readWords_28 q5047 mX36_readWord rfl (k_ok_some b8).1 (k_ok_some b8).2) mX36_readWord.2.2.1 mX36_readWord.2.2.2.2.1 (Nat.le_of_ble_eq_true rfl) (Nat.le_of_ble_eq_true rfl) (fun q hq => pX36_readWord (by omega) hq) (fun q9 hf => ?_)
      refine w_if_ne 43 dX36_readWords_31 (by decide) (fun c10 => ?_) (fun c10 => ?_)
      · replace hf := (if_pos (show ¬ q9.1 = 0 from c10)).symm.trans hf
        refine w_aload_n dX36_readWords_43 rfl rfl ?_
        obtain ⟨x11, b12, hf⟩ := Option.bind_eq_some_iff.mp hf
        refine GX36_77 b12 dX36_readWords_44 rfl ?_
        refine w_bipush dX36_readWords_47 (v := 63) (by decide) ?_
        refine w_icmp_le 58 dX36_readWords_49 (by decide) (fun c13 => ?_) (fun c13 => ?_)
        · replace hf := (if_pos (show x11 ≤ (63 : Int32) from c13)).symm.trans hf
          refine w_aload_n dX36_readWords_58 rfl rfl ?_
          refine w_aload_n dX36_readWords_59 rfl rfl ?_
          obtain ⟨a14, b15, hf⟩ := Option.bind_eq_some_iff.mp hf
          refine GX36_52 b15 dX36_readWords_60 rfl ?_
          refine w_aload_n dX36_readWords_63 rfl rfl ?_
          obtain ⟨x16, b17, hf⟩ := Option.bind_eq_some_iff.mp hf
          refine GX36_77 b17 dX36_readWords_64 rfl ?_
          obtain ⟨_, b18, hf⟩ := Option.bind_eq_some_iff.mp hf
          refine x_cnI hf (e_stV (Yc := YX36_toldAt) (ci := 35) (av := [.ref a14, .int x16]) (st := []) dX36_readWords_67 q5051 mX36_toldAt rfl (k_ok_some b18).1 (k_ok_some b18).2) mX36_toldAt.2.2.1 mX36_toldAt.2.2.2.2.1 (Nat.le_of_ble_eq_true rfl) (Nat.le_of_ble_eq_true rfl) (fun q hq => pX36_toldAt (by omega) hq) (fun q19 hf => ?_)
          refine w_istore dX36_readWords_70 (by decide) (ls' := [some (.ref l0), some (.int l1), some (.int l2), some (.int x6), some (.int q19.1), none]) rfl ?_
          refine w_iload dX36_readWords_72 rfl ?_
          refine w_if_ge 212 dX36_readWords_74 (by decide) (fun c20 => ?_) (fun c20 => ?_)
          · replace hf := (if_pos (show 0 ≤ q19.1 from c20)).symm.trans hf
            exact (pX36_readWords_b212 hd ih hf).to ⟨rfl, rfl, rfl, rfl, trivial⟩
          · replace hf := (if_neg (show ¬ (0 ≤ q19.1) from c20)).symm.trans hf
            refine w_aload_n dX36_readWords_77 rfl rfl ?_
            obtain ⟨x21, b22, hf⟩ := Option.bind_eq_some_iff.mp hf
            refine GX36_125 b22 dX36_readWords_78 rfl ?_
            refine w_sipush dX36_readWords_81 (v := 300) (by decide) ?_
            refine w_icmp_eq 107 dX36_readWords_84 (by decide) (fun c23 => ?_) (fun c23 => ?_)
            · replace hf := (if_pos (show x21 = (300 : Int32) from c23)).symm.trans hf
              exact (pX36_readWords_b107 hd hf).to ⟨rfl, trivial⟩
            · replace hf := (if_neg (show ¬ (x21 = (300 : Int32)) from c23)).symm.trans hf
              refine w_aload_n dX36_readWords_87 rfl rfl ?_
              obtain ⟨a24, b25, hf⟩ := Option.bind_eq_some_iff.mp hf
              refine GX36_43 b25 dX36_readWords_88 rfl ?_
              refine w_aload_n dX36_readWords_91 rfl rfl ?_
              obtain ⟨x26, b27, hf⟩ := Option.bind_eq_some_iff.mp hf
              refine GX36_125 b27 dX36_readWords_92 rfl ?_
              obtain ⟨x28, b29, hf⟩ := Option.bind_eq_some_iff.mp hf
              refine x_rI b29 dX36_readWords_95 ?_
              refine w_aload_n dX36_readWords_96 rfl rfl ?_
              obtain ⟨x30, b31, hf⟩ := Option.bind_eq_some_iff.mp hf
              refine GX36_77 b31 dX36_readWords_97 rfl ?_
              refine w_iadd dX36_readWords_100 ?_
              refine w_sipush dX36_readWords_101 (v := 8000) (by decide) ?_
              refine w_icmp_le 113 dX36_readWords_104 (by decide) (fun c32 => ?_) (fun c32 => ?_)
              · replace hf := (if_pos (show (x28 + x30) ≤ (8000 : Int32) from c32)).symm.trans hf
                refine w_aload_n dX36_readWords_113 rfl rfl ?_
                obtain ⟨x33, b34, hf⟩ := Option.bind_eq_some_iff.mp hf
                refine GX36_125 b34 dX36_readWords_114 rfl ?_
                refine w_istore dX36_readWords_117 (by decide) (ls' := [some (.ref l0), some (.int l1), some (.int l2), some (.int x6), some (.int x33), none]) rfl ?_
                refine w_iconst dX36_readWords_119 (v := 0) (by decide) ?_
                refine w_istore dX36_readWords_120 (by decide) (ls' := [some (.ref l0), some (.int l1), some (.int l2), some (.int x6), some (.int x33), some (.int (0 : Int32))]) rfl ?_
                exact (pX36_readWords_b122 hd ih N _ _ _ _ _ _ _ hf).to ⟨rfl, rfl, rfl, rfl, rfl, trivial⟩
              · replace hf := (if_neg (show ¬ ((x28 + x30) ≤ (8000 : Int32)) from c32)).symm.trans hf
                exact (pX36_readWords_b107 hd hf).to ⟨rfl, trivial⟩
        · replace hf := (if_neg (show ¬ (x11 ≤ (63 : Int32)) from c13)).symm.trans hf
          refine w_iconst dX36_readWords_52 (v := 2) (by decide) ?_
          refine w_iload_n dX36_readWords_53 rfl rfl ?_
          refine x_cnI hf (e_stS (Yc := YX36_fault) (av := [.int (2 : Int32), .int x6]) (st := []) dX36_readWords_54 q5027 mX36_fault) mX36_fault.2.2.1 mX36_fault.2.2.2.2.1 (Nat.le_of_ble_eq_true rfl) (Nat.le_of_ble_eq_true rfl) (fun q hq => pX36_fault (by omega) hq) (fun q35 hf => ?_)
          cases hf
          exact w_iret dX36_readWords_57 rfl rfl rfl
      · replace hf := (if_neg (show ¬ (¬ q9.1 = 0) from (fun z => z c10))).symm.trans hf
        refine w_iconst dX36_readWords_34 (v := 1) (by decide) ?_
        refine w_aload_n dX36_readWords_35 rfl rfl ?_
        obtain ⟨x36, b37, hf⟩ := Option.bind_eq_some_iff.mp hf
        refine GX36_71 b37 dX36_readWords_36 rfl ?_
        refine x_cnI hf (e_stS (Yc := YX36_fault) (av := [.int (1 : Int32), .int x36]) (st := []) dX36_readWords_39 q5027 mX36_fault) mX36_fault.2.2.1 mX36_fault.2.2.2.2.1 (Nat.le_of_ble_eq_true rfl) (Nat.le_of_ble_eq_true rfl) (fun q hq => pX36_fault (by omega) hq) (fun q38 hf => ?_)
        cases hf
        exact w_iret dX36_readWords_42 rfl rfl rfl
def fX36_readWords (N : Nat) (this : Nat) (p0 : Int32) (h : eH) : Option (Int32 × eH) :=
  (p_V 35 h this 16 (.int (0 : Int32))).bind fun h1 =>
  (k_ok 35 h1 this).bind fun _ =>
  (fX36_spaces N this h1).bind fun q4 =>
  fX36_readWords_b11 N N this p0 (0 : Int32) q4.2
theorem pX36_readWords {w : eW} {d : Nat} (hd : 2 ≤ d) {N : Nat} {this : Nat} {p0 : Int32} {h : eH} {q} (hf : fX36_readWords N this p0 h = some q) : wm w d YX36_readWords [.ref this, .int p0] h (e_is (e_rn c_I q)) := by
  obtain ⟨d, rfl⟩ : ∃ e, d = e + 1 := ⟨d - 1, by omega⟩
  show wp w (d + 1) YX36_readWords 0 [some (.ref this), some (.int p0), none, none, none, none] [] h _
  unfold fX36_readWords at hf
  refine w_iconst dX36_readWords_0 (v := 0) (by decide) ?_
  refine w_istore_n dX36_readWords_1 rfl (by decide) (ls' := [some (.ref this), some (.int p0), some (.int (0 : Int32)), none, none, none]) rfl ?_
  refine w_aload_n dX36_readWords_2 rfl rfl ?_
  refine w_iconst dX36_readWords_3 (v := 0) (by decide) ?_
  obtain ⟨h1, b2, hf⟩ := Option.bind_eq_some_iff.mp hf
  refine SX36_71 b2 dX36_readWords_4 rfl ?_
  refine w_aload_n dX36_readWords_7 rfl rfl ?_
  obtain ⟨_, b3, hf⟩ := Option.bind_eq_some_iff.mp hf
  refine x_cnV hf (e_stV (Yc := YX36_spaces) (ci := 35) (av := []) (st := []) dX36_readWords_8 q5004 mX36_spaces rfl (k_ok_some b3).1 (k_ok_some b3).2) mX36_spaces.2.2.1 mX36_spaces.2.2.2.2.1 (Nat.le_of_ble_eq_true rfl) (Nat.le_of_ble_eq_true rfl) (fun q hq => pX36_spaces (by omega) hq) (fun q4 hf => ?_)
  exact (pX36_readWords_b11 hd N _ _ _ _ _ hf).to ⟨rfl, rfl, rfl, trivial⟩
abbrev cX36_words : ByteArray := prog_40_method_16_code
def yX36_words : MethodName := ⟨RX36, "words", "()I"⟩
def YX36_words : eY := (yX36_words, cX36_words, 3, (Option.some FieldType.int), [])
theorem mX36_words : e_mv YX36_words RX36 0 := ⟨q5040, q5041, q5042, by decide, by decide +kernel, (e_sig (by decide +kernel))⟩
theorem dX36_words_0 : decode cX36_words 0 = .ok (.aload_n 0, 1) := dc_42 (by decide +kernel)
theorem dX36_words_1 : decode cX36_words 1 = .ok (.getfield 125, 3) := dc_180 (a := 0) (b := 125) (n := 125) (by decide +kernel)
theorem dX36_words_4 : decode cX36_words 4 = .ok (.istore_n 1, 1) := dc_60 (by decide +kernel)
theorem dX36_words_5 : decode cX36_words 5 = .ok (.aload_n 0, 1) := dc_42 (by decide +kernel)
theorem dX36_words_6 : decode cX36_words 6 = .ok (.iconst 0, 1) := dc_3 (by decide +kernel)
theorem dX36_words_7 : decode cX36_words 7 = .ok (.invokevirtual 135, 3) := dc_182 (a := 0) (b := 135) (n := 135) (by decide +kernel)
theorem dX36_words_10 : decode cX36_words 10 = .ok (.istore_n 2, 1) := dc_61 (by decide +kernel)
theorem dX36_words_11 : decode cX36_words 11 = .ok (.aload_n 0, 1) := dc_42 (by decide +kernel)
theorem dX36_words_12 : decode cX36_words 12 = .ok (.iload_n 1, 1) := dc_27 (by decide +kernel)
theorem dX36_words_13 : decode cX36_words 13 = .ok (.putfield 125, 3) := dc_181 (a := 0) (b := 125) (n := 125) (by decide +kernel)
theorem dX36_words_16 : decode cX36_words 16 = .ok (.iload_n 2, 1) := dc_28 (by decide +kernel)
theorem dX36_words_17 : decode cX36_words 17 = .ok (.ifCond .lt 9, 3) := dc_155 (a := 0) (b := 9) (v := 9) (by decide +kernel)
theorem dX36_words_20 : decode cX36_words 20 = .ok (.aload_n 0, 1) := dc_42 (by decide +kernel)
theorem dX36_words_21 : decode cX36_words 21 = .ok (.iconst 1, 1) := dc_4 (by decide +kernel)
theorem dX36_words_22 : decode cX36_words 22 = .ok (.invokevirtual 135, 3) := dc_182 (a := 0) (b := 135) (n := 135) (by decide +kernel)
theorem dX36_words_25 : decode cX36_words 25 = .ok (.istore_n 2, 1) := dc_61 (by decide +kernel)
theorem dX36_words_26 : decode cX36_words 26 = .ok (.aload_n 0, 1) := dc_42 (by decide +kernel)
theorem dX36_words_27 : decode cX36_words 27 = .ok (.iconst 0, 1) := dc_3 (by decide +kernel)
theorem dX36_words_28 : decode cX36_words 28 = .ok (.putfield 74, 3) := dc_181 (a := 0) (b := 74) (n := 74) (by decide +kernel)
theorem dX36_words_31 : decode cX36_words 31 = .ok (.iload_n 2, 1) := dc_28 (by decide +kernel)
theorem dX36_words_32 : decode cX36_words 32 = .ok (.ireturn, 1) := dc_172 (by decide +kernel)
def fX36_words_b26 (N : Nat) (l0 : Nat) (l2 : Int32) (h : eH) : Option (Int32 × eH) :=
  (p_V 35 h l0 3 (.int (0 : Int32))).bind fun h1 =>
  some (l2, h1)
theorem pX36_words_b26 {w : eW} {d : Nat} (hd : 3 ≤ d + 1) {N : Nat} {l0 : Nat} {l2 : Int32} {h : eH} {q} (hf : fX36_words_b26 N l0 l2 h = some q) : wp w (d + 1) YX36_words 26 [some (.ref l0), none, some (.int l2)] [] h (e_is (e_rn c_I q)) := by
  unfold fX36_words_b26 at hf
  refine w_aload_n dX36_words_26 rfl rfl ?_
  refine w_iconst dX36_words_27 (v := 0) (by decide) ?_
  obtain ⟨h1, b2, hf⟩ := Option.bind_eq_some_iff.mp hf
  refine SX36_74 b2 dX36_words_28 rfl ?_
  refine w_iload_n dX36_words_31 rfl rfl ?_
  cases hf
  exact w_iret dX36_words_32 rfl rfl rfl
def fX36_words (N : Nat) (this : Nat) (h : eH) : Option (Int32 × eH) :=
  (g_I 35 h this 12).bind fun x1 =>
  (k_ok 35 h this).bind fun _ =>
  (fX36_readWords N this (0 : Int32) h).bind fun q4 =>
  (p_V 35 q4.2 this 12 (.int x1)).bind fun h5 =>
  if q4.1 < 0 then
    fX36_words_b26 N this q4.1 h5
  else
    (k_ok 35 h5 this).bind fun _ =>
    (fX36_readWords N this (1 : Int32) h5).bind fun q9 =>
    fX36_words_b26 N this q9.1 q9.2
theorem pX36_words {w : eW} {d : Nat} (hd : 3 ≤ d) {N : Nat} {this : Nat} {h : eH} {q} (hf : fX36_words N this h = some q) : wm w d YX36_words [.ref this] h (e_is (e_rn c_I q)) := by
  obtain ⟨d, rfl⟩ : ∃ e, d = e + 1 := ⟨d - 1, by omega⟩
  show wp w (d + 1) YX36_words 0 [some (.ref this), none, none] [] h _
  unfold fX36_words at hf
  refine w_aload_n dX36_words_0 rfl rfl ?_
  obtain ⟨x1, b2, hf⟩ := Option.bind_eq_some_iff.mp hf
  refine GX36_125 b2 dX36_words_1 rfl ?_
  refine w_istore_n dX36_words_4 rfl (by decide) (ls' := [some (.ref this), some (.int x1), none]) rfl ?_
  refine w_aload_n dX36_words_5 rfl rfl ?_
  refine w_iconst dX36_words_6 (v := 0) (by decide) ?_
  obtain ⟨_, b3, hf⟩ := Option.bind_eq_some_iff.mp hf
  refine x_cnI hf (e_stV (Yc := YX36_readWords) (ci := 35) (av := [.int (0 : Int32)]) (st := []) dX36_words_7 q5043 mX36_readWords rfl (k_ok_some b3).1 (k_ok_some b3).2) mX36_readWords.2.2.1 mX36_readWords.2.2.2.2.1 (Nat.le_of_ble_eq_true rfl) (Nat.le_of_ble_eq_true rfl) (fun q hq => pX36_readWords (by omega) hq) (fun q4 hf => ?_)
  refine w_istore_n dX36_words_10 rfl (by decide) (ls' := [some (.ref this), some (.int x1), some (.int q4.1)]) rfl ?_
  refine w_aload_n dX36_words_11 rfl rfl ?_
  refine w_iload_n dX36_words_12 rfl rfl ?_
  obtain ⟨h5, b6, hf⟩ := Option.bind_eq_some_iff.mp hf
  refine SX36_125 b6 dX36_words_13 rfl ?_
  refine w_iload_n dX36_words_16 rfl rfl ?_
  refine w_if_lt 26 dX36_words_17 (by decide) (fun c7 => ?_) (fun c7 => ?_)
  · replace hf := (if_pos (show q4.1 < 0 from c7)).symm.trans hf
    exact (pX36_words_b26 hd hf).to ⟨rfl, rfl, trivial⟩
  · replace hf := (if_neg (show ¬ (q4.1 < 0) from c7)).symm.trans hf
    refine w_aload_n dX36_words_20 rfl rfl ?_
    refine w_iconst dX36_words_21 (v := 1) (by decide) ?_
    obtain ⟨_, b8, hf⟩ := Option.bind_eq_some_iff.mp hf
    refine x_cnI hf (e_stV (Yc := YX36_readWords) (ci := 35) (av := [.int (1 : Int32)]) (st := []) dX36_words_22 q5043 mX36_readWords rfl (k_ok_some b8).1 (k_ok_some b8).2) mX36_readWords.2.2.1 mX36_readWords.2.2.2.2.1 (Nat.le_of_ble_eq_true rfl) (Nat.le_of_ble_eq_true rfl) (fun q hq => pX36_readWords (by omega) hq) (fun q9 hf => ?_)
    refine w_istore_n dX36_words_25 rfl (by decide) (ls' := [some (.ref this), some (.int x1), some (.int q9.1)]) rfl ?_
    exact (pX36_words_b26 hd hf).to ⟨rfl, rfl, trivial⟩
abbrev cX38_open : ByteArray := prog_39_method_12_code
def yX38_open : MethodName := ⟨RX38, "open", "()V"⟩
def YX38_open : eY := (yX38_open, cX38_open, 1, none, [])
theorem mX38_open : e_mv YX38_open RX38 0 := ⟨q5065, qs233, q5066, by decide, by decide +kernel, (e_sig (by decide +kernel))⟩
theorem dX38_open_0 : decode cX38_open 0 = .ok (.aload_n 0, 1) := dc_42 (by decide +kernel)
theorem dX38_open_1 : decode cX38_open 1 = .ok (.sipush 247, 3) := dc_17 (a := 0) (b := 247) (v := 247) (by decide +kernel)
theorem dX38_open_4 : decode cX38_open 4 = .ok (.invokevirtual 84, 3) := dc_182 (a := 0) (b := 84) (n := 84) (by decide +kernel)
theorem dX38_open_7 : decode cX38_open 7 = .ok (.aload_n 0, 1) := dc_42 (by decide +kernel)
theorem dX38_open_8 : decode cX38_open 8 = .ok (.iconst 2, 1) := dc_5 (by decide +kernel)
theorem dX38_open_9 : decode cX38_open 9 = .ok (.invokevirtual 84, 3) := dc_182 (a := 0) (b := 84) (n := 84) (by decide +kernel)
theorem dX38_open_12 : decode cX38_open 12 = .ok (.aload_n 0, 1) := dc_42 (by decide +kernel)
theorem dX38_open_13 : decode cX38_open 13 = .ok (.ldc 106, 2) := dc_18 (a := 106) (by decide +kernel)
theorem dX38_open_15 : decode cX38_open 15 = .ok (.iconst 4, 1) := dc_7 (by decide +kernel)
theorem dX38_open_16 : decode cX38_open 16 = .ok (.invokevirtual 102, 3) := dc_182 (a := 0) (b := 102) (n := 102) (by decide +kernel)
theorem dX38_open_19 : decode cX38_open 19 = .ok (.aload_n 0, 1) := dc_42 (by decide +kernel)
theorem dX38_open_20 : decode cX38_open 20 = .ok (.ldc 107, 2) := dc_18 (a := 107) (by decide +kernel)
theorem dX38_open_22 : decode cX38_open 22 = .ok (.iconst 4, 1) := dc_7 (by decide +kernel)
theorem dX38_open_23 : decode cX38_open 23 = .ok (.invokevirtual 102, 3) := dc_182 (a := 0) (b := 102) (n := 102) (by decide +kernel)
theorem dX38_open_26 : decode cX38_open 26 = .ok (.aload_n 0, 1) := dc_42 (by decide +kernel)
theorem dX38_open_27 : decode cX38_open 27 = .ok (.sipush 1000, 3) := dc_17 (a := 3) (b := 232) (v := 1000) (by decide +kernel)
theorem dX38_open_30 : decode cX38_open 30 = .ok (.iconst 4, 1) := dc_7 (by decide +kernel)
theorem dX38_open_31 : decode cX38_open 31 = .ok (.invokevirtual 102, 3) := dc_182 (a := 0) (b := 102) (n := 102) (by decide +kernel)
theorem dX38_open_34 : decode cX38_open 34 = .ok (.aload_n 0, 1) := dc_42 (by decide +kernel)
theorem dX38_open_35 : decode cX38_open 35 = .ok (.iconst 0, 1) := dc_3 (by decide +kernel)
theorem dX38_open_36 : decode cX38_open 36 = .ok (.invokevirtual 84, 3) := dc_182 (a := 0) (b := 84) (n := 84) (by decide +kernel)
theorem dX38_open_39 : decode cX38_open 39 = .ok (.return_, 1) := dc_177 (by decide +kernel)
def fX38_open (N : Nat) (this : Nat) (h : eH) : Option (Unit × eH) :=
  (k_ok 37 h this).bind fun _ =>
  (fX38_lay this (247 : Int32) h).bind fun q2 =>
  (k_ok 37 q2.2 this).bind fun _ =>
  (fX38_lay this (2 : Int32) q2.2).bind fun q4 =>
  (k_ok 37 q4.2 this).bind fun _ =>
  (fX38_layNumber N this (25400000 : Int32) (4 : Int32) q4.2).bind fun q6 =>
  (k_ok 37 q6.2 this).bind fun _ =>
  (fX38_layNumber N this (473628672 : Int32) (4 : Int32) q6.2).bind fun q8 =>
  (k_ok 37 q8.2 this).bind fun _ =>
  (fX38_layNumber N this (1000 : Int32) (4 : Int32) q8.2).bind fun q10 =>
  (k_ok 37 q10.2 this).bind fun _ =>
  (fX38_lay this (0 : Int32) q10.2).bind fun q12 =>
  some ((), q12.2)
theorem pX38_open {w : eW} {d : Nat} (hd : 2 ≤ d) {N : Nat} {this : Nat} {h : eH} {q} (hf : fX38_open N this h = some q) : wm w d YX38_open [.ref this] h (e_is (e_rn c_V q)) := by
  obtain ⟨d, rfl⟩ : ∃ e, d = e + 1 := ⟨d - 1, by omega⟩
  show wp w (d + 1) YX38_open 0 [some (.ref this)] [] h _
  unfold fX38_open at hf
  refine w_aload_n dX38_open_0 rfl rfl ?_
  refine w_sipush dX38_open_1 (v := 247) (by decide) ?_
  obtain ⟨_, b1, hf⟩ := Option.bind_eq_some_iff.mp hf
  refine x_cnV hf (e_stV (Yc := YX38_lay) (ci := 37) (av := [.int (247 : Int32)]) (st := []) dX38_open_4 q5067 mX38_lay rfl (k_ok_some b1).1 (k_ok_some b1).2) mX38_lay.2.2.1 mX38_lay.2.2.2.2.1 (Nat.le_of_ble_eq_true rfl) (Nat.le_of_ble_eq_true rfl) (fun q hq => pX38_lay (by omega) hq) (fun q2 hf => ?_)
  refine w_aload_n dX38_open_7 rfl rfl ?_
  refine w_iconst dX38_open_8 (v := 2) (by decide) ?_
  obtain ⟨_, b3, hf⟩ := Option.bind_eq_some_iff.mp hf
  refine x_cnV hf (e_stV (Yc := YX38_lay) (ci := 37) (av := [.int (2 : Int32)]) (st := []) dX38_open_9 q5067 mX38_lay rfl (k_ok_some b3).1 (k_ok_some b3).2) mX38_lay.2.2.1 mX38_lay.2.2.2.2.1 (Nat.le_of_ble_eq_true rfl) (Nat.le_of_ble_eq_true rfl) (fun q hq => pX38_lay (by omega) hq) (fun q4 hf => ?_)
  refine w_aload_n dX38_open_12 rfl rfl ?_
  refine w_ldc dX38_open_13 q5071 ?_
  refine w_iconst dX38_open_15 (v := 4) (by decide) ?_
  obtain ⟨_, b5, hf⟩ := Option.bind_eq_some_iff.mp hf
  refine x_cnV hf (e_stV (Yc := YX38_layNumber) (ci := 37) (av := [.int (25400000 : Int32), .int (4 : Int32)]) (st := []) dX38_open_16 q5072 mX38_layNumber rfl (k_ok_some b5).1 (k_ok_some b5).2) mX38_layNumber.2.2.1 mX38_layNumber.2.2.2.2.1 (Nat.le_of_ble_eq_true rfl) (Nat.le_of_ble_eq_true rfl) (fun q hq => pX38_layNumber (by omega) hq) (fun q6 hf => ?_)
  refine w_aload_n dX38_open_19 rfl rfl ?_
  refine w_ldc dX38_open_20 q5076 ?_
  refine w_iconst dX38_open_22 (v := 4) (by decide) ?_
  obtain ⟨_, b7, hf⟩ := Option.bind_eq_some_iff.mp hf
  refine x_cnV hf (e_stV (Yc := YX38_layNumber) (ci := 37) (av := [.int (473628672 : Int32), .int (4 : Int32)]) (st := []) dX38_open_23 q5072 mX38_layNumber rfl (k_ok_some b7).1 (k_ok_some b7).2) mX38_layNumber.2.2.1 mX38_layNumber.2.2.2.2.1 (Nat.le_of_ble_eq_true rfl) (Nat.le_of_ble_eq_true rfl) (fun q hq => pX38_layNumber (by omega) hq) (fun q8 hf => ?_)
  refine w_aload_n dX38_open_26 rfl rfl ?_
  refine w_sipush dX38_open_27 (v := 1000) (by decide) ?_
  refine w_iconst dX38_open_30 (v := 4) (by decide) ?_
  obtain ⟨_, b9, hf⟩ := Option.bind_eq_some_iff.mp hf
  refine x_cnV hf (e_stV (Yc := YX38_layNumber) (ci := 37) (av := [.int (1000 : Int32), .int (4 : Int32)]) (st := []) dX38_open_31 q5072 mX38_layNumber rfl (k_ok_some b9).1 (k_ok_some b9).2) mX38_layNumber.2.2.1 mX38_layNumber.2.2.2.2.1 (Nat.le_of_ble_eq_true rfl) (Nat.le_of_ble_eq_true rfl) (fun q hq => pX38_layNumber (by omega) hq) (fun q10 hf => ?_)
  refine w_aload_n dX38_open_34 rfl rfl ?_
  refine w_iconst dX38_open_35 (v := 0) (by decide) ?_
  obtain ⟨_, b11, hf⟩ := Option.bind_eq_some_iff.mp hf
  refine x_cnV hf (e_stV (Yc := YX38_lay) (ci := 37) (av := [.int (0 : Int32)]) (st := []) dX38_open_36 q5067 mX38_lay rfl (k_ok_some b11).1 (k_ok_some b11).2) mX38_lay.2.2.1 mX38_lay.2.2.2.2.1 (Nat.le_of_ble_eq_true rfl) (Nat.le_of_ble_eq_true rfl) (fun q hq => pX38_lay (by omega) hq) (fun q12 hf => ?_)
  cases hf
  exact w_vret dX38_open_39 rfl rfl
abbrev cX38_begin : ByteArray := prog_39_method_2_code
def yX38_begin : MethodName := ⟨RX38, "begin", "()V"⟩
def YX38_begin : eY := (yX38_begin, cX38_begin, 1, none, [])
theorem mX38_begin : e_mv YX38_begin RX38 0 := ⟨q5060, q5061, q5062, by decide, by decide +kernel, (e_sig (by decide +kernel))⟩
theorem dX38_begin_0 : decode cX38_begin 0 = .ok (.aload_n 0, 1) := dc_42 (by decide +kernel)
theorem dX38_begin_1 : decode cX38_begin 1 = .ok (.iconst 0, 1) := dc_3 (by decide +kernel)
theorem dX38_begin_2 : decode cX38_begin 2 = .ok (.putfield 66, 3) := dc_181 (a := 0) (b := 66) (n := 66) (by decide +kernel)
theorem dX38_begin_5 : decode cX38_begin 5 = .ok (.aload_n 0, 1) := dc_42 (by decide +kernel)
theorem dX38_begin_6 : decode cX38_begin 6 = .ok (.iconst 0, 1) := dc_3 (by decide +kernel)
theorem dX38_begin_7 : decode cX38_begin 7 = .ok (.putfield 69, 3) := dc_181 (a := 0) (b := 69) (n := 69) (by decide +kernel)
theorem dX38_begin_10 : decode cX38_begin 10 = .ok (.aload_n 0, 1) := dc_42 (by decide +kernel)
theorem dX38_begin_11 : decode cX38_begin 11 = .ok (.iconst (-1), 1) := dc_2 (by decide +kernel)
theorem dX38_begin_12 : decode cX38_begin 12 = .ok (.putfield 32, 3) := dc_181 (a := 0) (b := 32) (n := 32) (by decide +kernel)
theorem dX38_begin_15 : decode cX38_begin 15 = .ok (.aload_n 0, 1) := dc_42 (by decide +kernel)
theorem dX38_begin_16 : decode cX38_begin 16 = .ok (.iconst 0, 1) := dc_3 (by decide +kernel)
theorem dX38_begin_17 : decode cX38_begin 17 = .ok (.putfield 72, 3) := dc_181 (a := 0) (b := 72) (n := 72) (by decide +kernel)
theorem dX38_begin_20 : decode cX38_begin 20 = .ok (.aload_n 0, 1) := dc_42 (by decide +kernel)
theorem dX38_begin_21 : decode cX38_begin 21 = .ok (.iconst 0, 1) := dc_3 (by decide +kernel)
theorem dX38_begin_22 : decode cX38_begin 22 = .ok (.putfield 75, 3) := dc_181 (a := 0) (b := 75) (n := 75) (by decide +kernel)
theorem dX38_begin_25 : decode cX38_begin 25 = .ok (.aload_n 0, 1) := dc_42 (by decide +kernel)
theorem dX38_begin_26 : decode cX38_begin 26 = .ok (.iconst 0, 1) := dc_3 (by decide +kernel)
theorem dX38_begin_27 : decode cX38_begin 27 = .ok (.putfield 78, 3) := dc_181 (a := 0) (b := 78) (n := 78) (by decide +kernel)
theorem dX38_begin_30 : decode cX38_begin 30 = .ok (.aload_n 0, 1) := dc_42 (by decide +kernel)
theorem dX38_begin_31 : decode cX38_begin 31 = .ok (.invokevirtual 81, 3) := dc_182 (a := 0) (b := 81) (n := 81) (by decide +kernel)
theorem dX38_begin_34 : decode cX38_begin 34 = .ok (.return_, 1) := dc_177 (by decide +kernel)
def fX38_begin (N : Nat) (this : Nat) (h : eH) : Option (Unit × eH) :=
  (p_V 37 h this 5 (.int (0 : Int32))).bind fun h1 =>
  (p_V 37 h1 this 7 (.int (0 : Int32))).bind fun h3 =>
  (p_V 37 h3 this 8 (.int (-1 : Int32))).bind fun h5 =>
  (p_V 37 h5 this 9 (.int (0 : Int32))).bind fun h7 =>
  (p_V 37 h7 this 10 (.int (0 : Int32))).bind fun h9 =>
  (p_V 37 h9 this 11 (.int (0 : Int32))).bind fun h11 =>
  (k_ok 37 h11 this).bind fun _ =>
  (fX38_open N this h11).bind fun q14 =>
  some ((), q14.2)
theorem pX38_begin {w : eW} {d : Nat} (hd : 3 ≤ d) {N : Nat} {this : Nat} {h : eH} {q} (hf : fX38_begin N this h = some q) : wm w d YX38_begin [.ref this] h (e_is (e_rn c_V q)) := by
  obtain ⟨d, rfl⟩ : ∃ e, d = e + 1 := ⟨d - 1, by omega⟩
  show wp w (d + 1) YX38_begin 0 [some (.ref this)] [] h _
  unfold fX38_begin at hf
  refine w_aload_n dX38_begin_0 rfl rfl ?_
  refine w_iconst dX38_begin_1 (v := 0) (by decide) ?_
  obtain ⟨h1, b2, hf⟩ := Option.bind_eq_some_iff.mp hf
  refine SX38_66 b2 dX38_begin_2 rfl ?_
  refine w_aload_n dX38_begin_5 rfl rfl ?_
  refine w_iconst dX38_begin_6 (v := 0) (by decide) ?_
  obtain ⟨h3, b4, hf⟩ := Option.bind_eq_some_iff.mp hf
  refine SX38_69 b4 dX38_begin_7 rfl ?_
  refine w_aload_n dX38_begin_10 rfl rfl ?_
  refine w_iconst dX38_begin_11 (v := -1) (by decide) ?_
  obtain ⟨h5, b6, hf⟩ := Option.bind_eq_some_iff.mp hf
  refine SX38_32 b6 dX38_begin_12 rfl ?_
  refine w_aload_n dX38_begin_15 rfl rfl ?_
  refine w_iconst dX38_begin_16 (v := 0) (by decide) ?_
  obtain ⟨h7, b8, hf⟩ := Option.bind_eq_some_iff.mp hf
  refine SX38_72 b8 dX38_begin_17 rfl ?_
  refine w_aload_n dX38_begin_20 rfl rfl ?_
  refine w_iconst dX38_begin_21 (v := 0) (by decide) ?_
  obtain ⟨h9, b10, hf⟩ := Option.bind_eq_some_iff.mp hf
  refine SX38_75 b10 dX38_begin_22 rfl ?_
  refine w_aload_n dX38_begin_25 rfl rfl ?_
  refine w_iconst dX38_begin_26 (v := 0) (by decide) ?_
  obtain ⟨h11, b12, hf⟩ := Option.bind_eq_some_iff.mp hf
  refine SX38_78 b12 dX38_begin_27 rfl ?_
  refine w_aload_n dX38_begin_30 rfl rfl ?_
  obtain ⟨_, b13, hf⟩ := Option.bind_eq_some_iff.mp hf
  refine x_cnV hf (e_stV (Yc := YX38_open) (ci := 37) (av := []) (st := []) dX38_begin_31 q5063 mX38_open rfl (k_ok_some b13).1 (k_ok_some b13).2) mX38_open.2.2.1 mX38_open.2.2.2.2.1 (Nat.le_of_ble_eq_true rfl) (Nat.le_of_ble_eq_true rfl) (fun q hq => pX38_open (by omega) hq) (fun q14 hf => ?_)
  cases hf
  exact w_vret dX38_begin_34 rfl rfl
abbrev cX35_tick : ByteArray := prog_37_method_41_code
def yX35_tick : MethodName := ⟨RX35, "tick", "()V"⟩
def YX35_tick : eY := (yX35_tick, cX35_tick, 1, none, [])
theorem mX35_tick : e_mv YX35_tick RX35 0 := ⟨q5148, qs250, q5149, by decide, by decide +kernel, (e_sig (by decide +kernel))⟩
theorem dX35_tick_0 : decode cX35_tick 0 = .ok (.aload_n 0, 1) := dc_42 (by decide +kernel)
theorem dX35_tick_1 : decode cX35_tick 1 = .ok (.dup, 1) := dc_89 (by decide +kernel)
theorem dX35_tick_2 : decode cX35_tick 2 = .ok (.getfield 300, 3) := dc_180 (a := 1) (b := 44) (n := 300) (by decide +kernel)
theorem dX35_tick_5 : decode cX35_tick 5 = .ok (.iconst 1, 1) := dc_4 (by decide +kernel)
theorem dX35_tick_6 : decode cX35_tick 6 = .ok (.iadd, 1) := dc_96 (by decide +kernel)
theorem dX35_tick_7 : decode cX35_tick 7 = .ok (.putfield 300, 3) := dc_181 (a := 1) (b := 44) (n := 300) (by decide +kernel)
theorem dX35_tick_10 : decode cX35_tick 10 = .ok (.aload_n 0, 1) := dc_42 (by decide +kernel)
theorem dX35_tick_11 : decode cX35_tick 11 = .ok (.getfield 300, 3) := dc_180 (a := 1) (b := 44) (n := 300) (by decide +kernel)
theorem dX35_tick_14 : decode cX35_tick 14 = .ok (.aload_n 0, 1) := dc_42 (by decide +kernel)
theorem dX35_tick_15 : decode cX35_tick 15 = .ok (.getfield 15, 3) := dc_180 (a := 0) (b := 15) (n := 15) (by decide +kernel)
theorem dX35_tick_18 : decode cX35_tick 18 = .ok (.if_icmp .le 9, 3) := dc_164 (a := 0) (b := 9) (v := 9) (by decide +kernel)
theorem dX35_tick_21 : decode cX35_tick 21 = .ok (.aload_n 0, 1) := dc_42 (by decide +kernel)
theorem dX35_tick_22 : decode cX35_tick 22 = .ok (.bipush 10, 2) := dc_16 (a := 10) (v := 10) (by decide +kernel)
theorem dX35_tick_24 : decode cX35_tick 24 = .ok (.invokevirtual 428, 3) := dc_182 (a := 1) (b := 172) (n := 428) (by decide +kernel)
theorem dX35_tick_27 : decode cX35_tick 27 = .ok (.return_, 1) := dc_177 (by decide +kernel)
theorem GX35_15 {w : eW} {d : Nat} {Y : eY} {pc : Nat} {ls : eL} {st : List Value} {h : eH} {Q : eO → eH → Prop} {a : Nat} {x : Int32} (hf : g_I 34 h a 3 = some x) (hd : decode Y.2.1 pc = .ok (.getfield 15, 3)) (hY : Y.1.cls = RX35) (kk : wp w d Y (pc + 3) ls (.int x :: st) h Q) : wp w d Y pc ls (.ref a :: st) h Q := x_gI (ci := 34) (k := 3) hf hd rfl (by decide) (by rw [hY]; exact q4505) kk
def fX35_tick_b27  (h : eH) : Option (Unit × eH) :=
  some ((), h)
theorem pX35_tick_b27 {w : eW} {d : Nat} (hd : 1 ≤ d + 1)  {h : eH} {q} (hf : fX35_tick_b27  h = some q) : wp w (d + 1) YX35_tick 27 [none] [] h (e_is (e_rn c_V q)) := by
  unfold fX35_tick_b27 at hf
  cases hf
  exact w_vret dX35_tick_27 rfl rfl
def fX35_tick (this : Nat) (h : eH) : Option (Unit × eH) :=
  (g_I 34 h this 44).bind fun x1 =>
  (p_V 34 h this 44 (.int (x1 + (1 : Int32)))).bind fun h3 =>
  (g_I 34 h3 this 44).bind fun x5 =>
  (g_I 34 h3 this 3).bind fun x7 =>
  if x5 ≤ x7 then
    fX35_tick_b27 h3
  else
    (k_ok 34 h3 this).bind fun _ =>
    (fX35_fail this (10 : Int32) h3).bind fun q11 =>
    fX35_tick_b27 q11.2
theorem pX35_tick {w : eW} {d : Nat} (hd : 1 ≤ d) {this : Nat} {h : eH} {q} (hf : fX35_tick this h = some q) : wm w d YX35_tick [.ref this] h (e_is (e_rn c_V q)) := by
  obtain ⟨d, rfl⟩ : ∃ e, d = e + 1 := ⟨d - 1, by omega⟩
  show wp w (d + 1) YX35_tick 0 [some (.ref this)] [] h _
  unfold fX35_tick at hf
  refine w_aload_n dX35_tick_0 rfl rfl ?_
  refine w_dup dX35_tick_1 rfl ?_
  obtain ⟨x1, b2, hf⟩ := Option.bind_eq_some_iff.mp hf
  refine GX35_300 b2 dX35_tick_2 rfl ?_
  refine w_iconst dX35_tick_5 (v := 1) (by decide) ?_
  refine w_iadd dX35_tick_6 ?_
  obtain ⟨h3, b4, hf⟩ := Option.bind_eq_some_iff.mp hf
  refine SX35_300 b4 dX35_tick_7 rfl ?_
  refine w_aload_n dX35_tick_10 rfl rfl ?_
  obtain ⟨x5, b6, hf⟩ := Option.bind_eq_some_iff.mp hf
  refine GX35_300 b6 dX35_tick_11 rfl ?_
  refine w_aload_n dX35_tick_14 rfl rfl ?_
  obtain ⟨x7, b8, hf⟩ := Option.bind_eq_some_iff.mp hf
  refine GX35_15 b8 dX35_tick_15 rfl ?_
  refine w_icmp_le 27 dX35_tick_18 (by decide) (fun c9 => ?_) (fun c9 => ?_)
  · replace hf := (if_pos (show x5 ≤ x7 from c9)).symm.trans hf
    exact (pX35_tick_b27 hd hf).to trivial
  · replace hf := (if_neg (show ¬ (x5 ≤ x7) from c9)).symm.trans hf
    refine w_aload_n dX35_tick_21 rfl rfl ?_
    refine w_bipush dX35_tick_22 (v := 10) (by decide) ?_
    obtain ⟨_, b10, hf⟩ := Option.bind_eq_some_iff.mp hf
    refine x_cnV hf (e_stV (Yc := YX35_fail) (ci := 34) (av := [.int (10 : Int32)]) (st := []) dX35_tick_24 q5109 mX35_fail rfl (k_ok_some b10).1 (k_ok_some b10).2) mX35_fail.2.2.1 mX35_fail.2.2.2.2.1 (Nat.le_of_ble_eq_true rfl) (Nat.le_of_ble_eq_true rfl) (fun q hq => pX35_fail (by omega) hq) (fun q11 hf => ?_)
    exact (pX35_tick_b27 hd hf).to trivial
abbrev cX38_close : ByteArray := prog_39_method_17_code
def yX38_close : MethodName := ⟨RX38, "close", "()V"⟩
def YX38_close : eY := (yX38_close, cX38_close, 3, none, [])
theorem mX38_close : e_mv YX38_close RX38 0 := ⟨q6049, q6050, q6051, by decide, by decide +kernel, (e_sig (by decide +kernel))⟩
theorem dX38_close_0 : decode cX38_close 0 = .ok (.aload_n 0, 1) := dc_42 (by decide +kernel)
theorem dX38_close_1 : decode cX38_close 1 = .ok (.getfield 66, 3) := dc_180 (a := 0) (b := 66) (n := 66) (by decide +kernel)
theorem dX38_close_4 : decode cX38_close 4 = .ok (.istore_n 1, 1) := dc_60 (by decide +kernel)
theorem dX38_close_5 : decode cX38_close 5 = .ok (.aload_n 0, 1) := dc_42 (by decide +kernel)
theorem dX38_close_6 : decode cX38_close 6 = .ok (.sipush 248, 3) := dc_17 (a := 0) (b := 248) (v := 248) (by decide +kernel)
theorem dX38_close_9 : decode cX38_close 9 = .ok (.invokevirtual 84, 3) := dc_182 (a := 0) (b := 84) (n := 84) (by decide +kernel)
theorem dX38_close_12 : decode cX38_close 12 = .ok (.aload_n 0, 1) := dc_42 (by decide +kernel)
theorem dX38_close_13 : decode cX38_close 13 = .ok (.aload_n 0, 1) := dc_42 (by decide +kernel)
theorem dX38_close_14 : decode cX38_close 14 = .ok (.getfield 32, 3) := dc_180 (a := 0) (b := 32) (n := 32) (by decide +kernel)
theorem dX38_close_17 : decode cX38_close 17 = .ok (.iconst 4, 1) := dc_7 (by decide +kernel)
theorem dX38_close_18 : decode cX38_close 18 = .ok (.invokevirtual 102, 3) := dc_182 (a := 0) (b := 102) (n := 102) (by decide +kernel)
theorem dX38_close_21 : decode cX38_close 21 = .ok (.aload_n 0, 1) := dc_42 (by decide +kernel)
theorem dX38_close_22 : decode cX38_close 22 = .ok (.ldc 106, 2) := dc_18 (a := 106) (by decide +kernel)
theorem dX38_close_24 : decode cX38_close 24 = .ok (.iconst 4, 1) := dc_7 (by decide +kernel)
theorem dX38_close_25 : decode cX38_close 25 = .ok (.invokevirtual 102, 3) := dc_182 (a := 0) (b := 102) (n := 102) (by decide +kernel)
theorem dX38_close_28 : decode cX38_close 28 = .ok (.aload_n 0, 1) := dc_42 (by decide +kernel)
theorem dX38_close_29 : decode cX38_close 29 = .ok (.ldc 107, 2) := dc_18 (a := 107) (by decide +kernel)
theorem dX38_close_31 : decode cX38_close 31 = .ok (.iconst 4, 1) := dc_7 (by decide +kernel)
theorem dX38_close_32 : decode cX38_close 32 = .ok (.invokevirtual 102, 3) := dc_182 (a := 0) (b := 102) (n := 102) (by decide +kernel)
theorem dX38_close_35 : decode cX38_close 35 = .ok (.aload_n 0, 1) := dc_42 (by decide +kernel)
theorem dX38_close_36 : decode cX38_close 36 = .ok (.sipush 1000, 3) := dc_17 (a := 3) (b := 232) (v := 1000) (by decide +kernel)
theorem dX38_close_39 : decode cX38_close 39 = .ok (.iconst 4, 1) := dc_7 (by decide +kernel)
theorem dX38_close_40 : decode cX38_close 40 = .ok (.invokevirtual 102, 3) := dc_182 (a := 0) (b := 102) (n := 102) (by decide +kernel)
theorem dX38_close_43 : decode cX38_close 43 = .ok (.aload_n 0, 1) := dc_42 (by decide +kernel)
theorem dX38_close_44 : decode cX38_close 44 = .ok (.aload_n 0, 1) := dc_42 (by decide +kernel)
theorem dX38_close_45 : decode cX38_close 45 = .ok (.getfield 72, 3) := dc_180 (a := 0) (b := 72) (n := 72) (by decide +kernel)
theorem dX38_close_48 : decode cX38_close 48 = .ok (.iconst 4, 1) := dc_7 (by decide +kernel)
theorem dX38_close_49 : decode cX38_close 49 = .ok (.invokevirtual 102, 3) := dc_182 (a := 0) (b := 102) (n := 102) (by decide +kernel)
theorem dX38_close_52 : decode cX38_close 52 = .ok (.aload_n 0, 1) := dc_42 (by decide +kernel)
theorem dX38_close_53 : decode cX38_close 53 = .ok (.aload_n 0, 1) := dc_42 (by decide +kernel)
theorem dX38_close_54 : decode cX38_close 54 = .ok (.getfield 75, 3) := dc_180 (a := 0) (b := 75) (n := 75) (by decide +kernel)
theorem dX38_close_57 : decode cX38_close 57 = .ok (.iconst 4, 1) := dc_7 (by decide +kernel)
theorem dX38_close_58 : decode cX38_close 58 = .ok (.invokevirtual 102, 3) := dc_182 (a := 0) (b := 102) (n := 102) (by decide +kernel)
theorem dX38_close_61 : decode cX38_close 61 = .ok (.aload_n 0, 1) := dc_42 (by decide +kernel)
theorem dX38_close_62 : decode cX38_close 62 = .ok (.aload_n 0, 1) := dc_42 (by decide +kernel)
theorem dX38_close_63 : decode cX38_close 63 = .ok (.getfield 69, 3) := dc_180 (a := 0) (b := 69) (n := 69) (by decide +kernel)
theorem dX38_close_66 : decode cX38_close 66 = .ok (.ifCond .le 7, 3) := dc_158 (a := 0) (b := 7) (v := 7) (by decide +kernel)
theorem dX38_close_69 : decode cX38_close 69 = .ok (.iconst 1, 1) := dc_4 (by decide +kernel)
theorem dX38_close_70 : decode cX38_close 70 = .ok (.goto 4, 3) := dc_167 (a := 0) (b := 4) (v := 4) (by decide +kernel)
theorem dX38_close_73 : decode cX38_close 73 = .ok (.iconst 0, 1) := dc_3 (by decide +kernel)
theorem dX38_close_74 : decode cX38_close 74 = .ok (.iconst 2, 1) := dc_5 (by decide +kernel)
theorem dX38_close_75 : decode cX38_close 75 = .ok (.invokevirtual 102, 3) := dc_182 (a := 0) (b := 102) (n := 102) (by decide +kernel)
theorem dX38_close_78 : decode cX38_close 78 = .ok (.aload_n 0, 1) := dc_42 (by decide +kernel)
theorem dX38_close_79 : decode cX38_close 79 = .ok (.aload_n 0, 1) := dc_42 (by decide +kernel)
theorem dX38_close_80 : decode cX38_close 80 = .ok (.getfield 69, 3) := dc_180 (a := 0) (b := 69) (n := 69) (by decide +kernel)
theorem dX38_close_83 : decode cX38_close 83 = .ok (.iconst 2, 1) := dc_5 (by decide +kernel)
theorem dX38_close_84 : decode cX38_close 84 = .ok (.invokevirtual 102, 3) := dc_182 (a := 0) (b := 102) (n := 102) (by decide +kernel)
theorem dX38_close_87 : decode cX38_close 87 = .ok (.aload_n 0, 1) := dc_42 (by decide +kernel)
theorem dX38_close_88 : decode cX38_close 88 = .ok (.getfield 78, 3) := dc_180 (a := 0) (b := 78) (n := 78) (by decide +kernel)
theorem dX38_close_91 : decode cX38_close 91 = .ok (.iconst 1, 1) := dc_4 (by decide +kernel)
theorem dX38_close_92 : decode cX38_close 92 = .ok (.isub, 1) := dc_100 (by decide +kernel)
theorem dX38_close_93 : decode cX38_close 93 = .ok (.istore_n 2, 1) := dc_61 (by decide +kernel)
theorem dX38_close_94 : decode cX38_close 94 = .ok (.iload_n 2, 1) := dc_28 (by decide +kernel)
theorem dX38_close_95 : decode cX38_close 95 = .ok (.ifCond .lt 19, 3) := dc_155 (a := 0) (b := 19) (v := 19) (by decide +kernel)
theorem dX38_close_98 : decode cX38_close 98 = .ok (.aload_n 0, 1) := dc_42 (by decide +kernel)
theorem dX38_close_99 : decode cX38_close 99 = .ok (.aload_n 0, 1) := dc_42 (by decide +kernel)
theorem dX38_close_100 : decode cX38_close 100 = .ok (.getfield 36, 3) := dc_180 (a := 0) (b := 36) (n := 36) (by decide +kernel)
theorem dX38_close_103 : decode cX38_close 103 = .ok (.iload_n 2, 1) := dc_28 (by decide +kernel)
theorem dX38_close_104 : decode cX38_close 104 = .ok (.iaload, 1) := dc_46 (by decide +kernel)
theorem dX38_close_105 : decode cX38_close 105 = .ok (.invokevirtual 112, 3) := dc_182 (a := 0) (b := 112) (n := 112) (by decide +kernel)
theorem dX38_close_108 : decode cX38_close 108 = .ok (.iinc 2 (-1), 3) := dc_132 (a := 2) (b := 255) (v := -1) (by decide +kernel)
theorem dX38_close_111 : decode cX38_close 111 = .ok (.goto (-17), 3) := dc_167 (a := 255) (b := 239) (v := -17) (by decide +kernel)
theorem dX38_close_114 : decode cX38_close 114 = .ok (.aload_n 0, 1) := dc_42 (by decide +kernel)
theorem dX38_close_115 : decode cX38_close 115 = .ok (.sipush 249, 3) := dc_17 (a := 0) (b := 249) (v := 249) (by decide +kernel)
theorem dX38_close_118 : decode cX38_close 118 = .ok (.invokevirtual 84, 3) := dc_182 (a := 0) (b := 84) (n := 84) (by decide +kernel)
theorem dX38_close_121 : decode cX38_close 121 = .ok (.aload_n 0, 1) := dc_42 (by decide +kernel)
theorem dX38_close_122 : decode cX38_close 122 = .ok (.iload_n 1, 1) := dc_27 (by decide +kernel)
theorem dX38_close_123 : decode cX38_close 123 = .ok (.iconst 4, 1) := dc_7 (by decide +kernel)
theorem dX38_close_124 : decode cX38_close 124 = .ok (.invokevirtual 102, 3) := dc_182 (a := 0) (b := 102) (n := 102) (by decide +kernel)
theorem dX38_close_127 : decode cX38_close 127 = .ok (.aload_n 0, 1) := dc_42 (by decide +kernel)
theorem dX38_close_128 : decode cX38_close 128 = .ok (.iconst 2, 1) := dc_5 (by decide +kernel)
theorem dX38_close_129 : decode cX38_close 129 = .ok (.invokevirtual 84, 3) := dc_182 (a := 0) (b := 84) (n := 84) (by decide +kernel)
theorem dX38_close_132 : decode cX38_close 132 = .ok (.iconst 0, 1) := dc_3 (by decide +kernel)
theorem dX38_close_133 : decode cX38_close 133 = .ok (.istore_n 2, 1) := dc_61 (by decide +kernel)
theorem dX38_close_134 : decode cX38_close 134 = .ok (.iload_n 2, 1) := dc_28 (by decide +kernel)
theorem dX38_close_135 : decode cX38_close 135 = .ok (.iconst 4, 1) := dc_7 (by decide +kernel)
theorem dX38_close_136 : decode cX38_close 136 = .ok (.if_icmp .lt 12, 3) := dc_161 (a := 0) (b := 12) (v := 12) (by decide +kernel)
theorem dX38_close_139 : decode cX38_close 139 = .ok (.aload_n 0, 1) := dc_42 (by decide +kernel)
theorem dX38_close_140 : decode cX38_close 140 = .ok (.getfield 66, 3) := dc_180 (a := 0) (b := 66) (n := 66) (by decide +kernel)
theorem dX38_close_143 : decode cX38_close 143 = .ok (.iconst 4, 1) := dc_7 (by decide +kernel)
theorem dX38_close_144 : decode cX38_close 144 = .ok (.irem, 1) := dc_112 (by decide +kernel)
theorem dX38_close_145 : decode cX38_close 145 = .ok (.ifCond .eq 16, 3) := dc_153 (a := 0) (b := 16) (v := 16) (by decide +kernel)
theorem dX38_close_148 : decode cX38_close 148 = .ok (.aload_n 0, 1) := dc_42 (by decide +kernel)
theorem dX38_close_149 : decode cX38_close 149 = .ok (.sipush 223, 3) := dc_17 (a := 0) (b := 223) (v := 223) (by decide +kernel)
theorem dX38_close_152 : decode cX38_close 152 = .ok (.invokevirtual 84, 3) := dc_182 (a := 0) (b := 84) (n := 84) (by decide +kernel)
theorem dX38_close_155 : decode cX38_close 155 = .ok (.iinc 2 1, 3) := dc_132 (a := 2) (b := 1) (v := 1) (by decide +kernel)
theorem dX38_close_158 : decode cX38_close 158 = .ok (.goto (-24), 3) := dc_167 (a := 255) (b := 232) (v := -24) (by decide +kernel)
theorem dX38_close_161 : decode cX38_close 161 = .ok (.return_, 1) := dc_177 (by decide +kernel)
def fX38_close_b148 (N : Nat) (k134 : Nat → Int32 → eH → Option (Unit × eH)) (l0 : Nat) (l2 : Int32) (h : eH) : Option (Unit × eH) :=
  (k_ok 37 h l0).bind fun _ =>
  (fX38_lay l0 (223 : Int32) h).bind fun q2 =>
  k134 l0 (l2 + (1 : Int32)) q2.2
theorem pX38_close_b148 {w : eW} {d : Nat} (hd : 3 ≤ d + 1) {N : Nat} {k134 : Nat → Int32 → eH → Option (Unit × eH)} (hk134 : ∀ l0 l2 h q, k134 l0 l2 h = some q → wp w (d + 1) YX38_close 134 [some (.ref l0), none, some (.int l2)] [] h (e_is (e_rn c_V q))) {l0 : Nat} {l2 : Int32} {h : eH} {q} (hf : fX38_close_b148 N k134 l0 l2 h = some q) : wp w (d + 1) YX38_close 148 [some (.ref l0), none, some (.int l2)] [] h (e_is (e_rn c_V q)) := by
  unfold fX38_close_b148 at hf
  refine w_aload_n dX38_close_148 rfl rfl ?_
  refine w_sipush dX38_close_149 (v := 223) (by decide) ?_
  obtain ⟨_, b1, hf⟩ := Option.bind_eq_some_iff.mp hf
  refine x_cnV hf (e_stV (Yc := YX38_lay) (ci := 37) (av := [.int (223 : Int32)]) (st := []) dX38_close_152 q5067 mX38_lay rfl (k_ok_some b1).1 (k_ok_some b1).2) mX38_lay.2.2.1 mX38_lay.2.2.2.2.1 (Nat.le_of_ble_eq_true rfl) (Nat.le_of_ble_eq_true rfl) (fun q hq => pX38_lay (by omega) hq) (fun q2 hf => ?_)
  refine w_iinc dX38_close_155 (v := (l2 + (1 : Int32))) rfl rfl (by decide) (ls' := [some (.ref l0), none, some (.int (l2 + (1 : Int32)))]) rfl ?_
  refine w_goto 134 dX38_close_158 (by decide) ?_
  exact (hk134 _ _ _ _ hf).to ⟨rfl, rfl, trivial⟩
def fX38_close_b134 (N : Nat) : Nat → Nat → Int32 → eH → Option (Unit × eH)
  | 0, _, _, _ => none
  | n + 1, l0, l2, h =>
    if l2 < (4 : Int32) then
      fX38_close_b148 N (fX38_close_b134 N n) l0 l2 h
    else
      (g_I 37 h l0 5).bind fun x2 =>
      if (x2 - x2 / (4 : Int32) * (4 : Int32)) = 0 then
        some ((), h)
      else
        fX38_close_b148 N (fX38_close_b134 N n) l0 l2 h
theorem pX38_close_b134 {w : eW} {d : Nat} (hd : 3 ≤ d + 1) {N : Nat} : ∀ (n : Nat) l0 l2 h q, fX38_close_b134 N n l0 l2 h = some q → wp w (d + 1) YX38_close 134 [some (.ref l0), none, some (.int l2)] [] h (e_is (e_rn c_V q)) := by
  intro n
  induction n with
  | zero => intro l0 l2 h q hf; simp [fX38_close_b134] at hf
  | succ n ih =>
    intro l0 l2 h q hf
    rw [fX38_close_b134] at hf
    refine w_iload_n dX38_close_134 rfl rfl ?_
    refine w_iconst dX38_close_135 (v := 4) (by decide) ?_
    refine w_icmp_lt 148 dX38_close_136 (by decide) (fun c1 => ?_) (fun c1 => ?_)
    · replace hf := (if_pos (show l2 < (4 : Int32) from c1)).symm.trans hf
      exact (pX38_close_b148 hd ih hf).to ⟨rfl, rfl, trivial⟩
    · replace hf := (if_neg (show ¬ (l2 < (4 : Int32)) from c1)).symm.trans hf
      refine w_aload_n dX38_close_139 rfl rfl ?_
      obtain ⟨x2, b3, hf⟩ := Option.bind_eq_some_iff.mp hf
      refine GX38_66 b3 dX38_close_140 rfl ?_
      refine w_iconst dX38_close_143 (v := 4) (by decide) ?_
      refine w_irem dX38_close_144 (by decide) ?_
      refine w_if_eq 161 dX38_close_145 (by decide) (fun c4 => ?_) (fun c4 => ?_)
      · replace hf := (if_pos (show (x2 - x2 / (4 : Int32) * (4 : Int32)) = 0 from c4)).symm.trans hf
        cases hf
        exact w_vret dX38_close_161 rfl rfl
      · replace hf := (if_neg (show ¬ ((x2 - x2 / (4 : Int32) * (4 : Int32)) = 0) from c4)).symm.trans hf
        exact (pX38_close_b148 hd ih hf).to ⟨rfl, rfl, trivial⟩
def fX38_close_b94 (N : Nat) : Nat → Nat → Int32 → Int32 → eH → Option (Unit × eH)
  | 0, _, _, _, _ => none
  | n + 1, l0, l1, l2, h =>
    if l2 < 0 then
      (k_ok 37 h l0).bind fun _ =>
      (fX38_lay l0 (249 : Int32) h).bind fun q3 =>
      (k_ok 37 q3.2 l0).bind fun _ =>
      (fX38_layNumber N l0 l1 (4 : Int32) q3.2).bind fun q5 =>
      (k_ok 37 q5.2 l0).bind fun _ =>
      (fX38_lay l0 (2 : Int32) q5.2).bind fun q7 =>
      fX38_close_b134 N N l0 (0 : Int32) q7.2
    else
      (g_A 37 h l0 12).bind fun a8 =>
      (r_I 100 h a8 l2).bind fun x10 =>
      (k_ok 37 h l0).bind fun _ =>
      (fX38_define N l0 x10 h).bind fun q13 =>
      fX38_close_b94 N n l0 l1 (l2 + (-1 : Int32)) q13.2
theorem pX38_close_b94 {w : eW} {d : Nat} (hd : 3 ≤ d + 1) {N : Nat} : ∀ (n : Nat) l0 l1 l2 h q, fX38_close_b94 N n l0 l1 l2 h = some q → wp w (d + 1) YX38_close 94 [some (.ref l0), some (.int l1), some (.int l2)] [] h (e_is (e_rn c_V q)) := by
  intro n
  induction n with
  | zero => intro l0 l1 l2 h q hf; simp [fX38_close_b94] at hf
  | succ n ih =>
    intro l0 l1 l2 h q hf
    rw [fX38_close_b94] at hf
    refine w_iload_n dX38_close_94 rfl rfl ?_
    refine w_if_lt 114 dX38_close_95 (by decide) (fun c1 => ?_) (fun c1 => ?_)
    · replace hf := (if_pos (show l2 < 0 from c1)).symm.trans hf
      refine w_aload_n dX38_close_114 rfl rfl ?_
      refine w_sipush dX38_close_115 (v := 249) (by decide) ?_
      obtain ⟨_, b2, hf⟩ := Option.bind_eq_some_iff.mp hf
      refine x_cnV hf (e_stV (Yc := YX38_lay) (ci := 37) (av := [.int (249 : Int32)]) (st := []) dX38_close_118 q5067 mX38_lay rfl (k_ok_some b2).1 (k_ok_some b2).2) mX38_lay.2.2.1 mX38_lay.2.2.2.2.1 (Nat.le_of_ble_eq_true rfl) (Nat.le_of_ble_eq_true rfl) (fun q hq => pX38_lay (by omega) hq) (fun q3 hf => ?_)
      refine w_aload_n dX38_close_121 rfl rfl ?_
      refine w_iload_n dX38_close_122 rfl rfl ?_
      refine w_iconst dX38_close_123 (v := 4) (by decide) ?_
      obtain ⟨_, b4, hf⟩ := Option.bind_eq_some_iff.mp hf
      refine x_cnV hf (e_stV (Yc := YX38_layNumber) (ci := 37) (av := [.int l1, .int (4 : Int32)]) (st := []) dX38_close_124 q5072 mX38_layNumber rfl (k_ok_some b4).1 (k_ok_some b4).2) mX38_layNumber.2.2.1 mX38_layNumber.2.2.2.2.1 (Nat.le_of_ble_eq_true rfl) (Nat.le_of_ble_eq_true rfl) (fun q hq => pX38_layNumber (by omega) hq) (fun q5 hf => ?_)
      refine w_aload_n dX38_close_127 rfl rfl ?_
      refine w_iconst dX38_close_128 (v := 2) (by decide) ?_
      obtain ⟨_, b6, hf⟩ := Option.bind_eq_some_iff.mp hf
      refine x_cnV hf (e_stV (Yc := YX38_lay) (ci := 37) (av := [.int (2 : Int32)]) (st := []) dX38_close_129 q5067 mX38_lay rfl (k_ok_some b6).1 (k_ok_some b6).2) mX38_lay.2.2.1 mX38_lay.2.2.2.2.1 (Nat.le_of_ble_eq_true rfl) (Nat.le_of_ble_eq_true rfl) (fun q hq => pX38_lay (by omega) hq) (fun q7 hf => ?_)
      refine w_iconst dX38_close_132 (v := 0) (by decide) ?_
      refine w_istore_n dX38_close_133 rfl (by decide) (ls' := [some (.ref l0), some (.int l1), some (.int (0 : Int32))]) rfl ?_
      exact (pX38_close_b134 hd N _ _ _ _ hf).to ⟨rfl, rfl, trivial⟩
    · replace hf := (if_neg (show ¬ (l2 < 0) from c1)).symm.trans hf
      refine w_aload_n dX38_close_98 rfl rfl ?_
      refine w_aload_n dX38_close_99 rfl rfl ?_
      obtain ⟨a8, b9, hf⟩ := Option.bind_eq_some_iff.mp hf
      refine GX38_36 b9 dX38_close_100 rfl ?_
      refine w_iload_n dX38_close_103 rfl rfl ?_
      obtain ⟨x10, b11, hf⟩ := Option.bind_eq_some_iff.mp hf
      refine x_rI b11 dX38_close_104 ?_
      obtain ⟨_, b12, hf⟩ := Option.bind_eq_some_iff.mp hf
      refine x_cnV hf (e_stV (Yc := YX38_define) (ci := 37) (av := [.int x10]) (st := []) dX38_close_105 q5633 mX38_define rfl (k_ok_some b12).1 (k_ok_some b12).2) mX38_define.2.2.1 mX38_define.2.2.2.2.1 (Nat.le_of_ble_eq_true rfl) (Nat.le_of_ble_eq_true rfl) (fun q hq => pX38_define (by omega) hq) (fun q13 hf => ?_)
      refine w_iinc dX38_close_108 (v := (l2 + (-1 : Int32))) rfl rfl (by decide) (ls' := [some (.ref l0), some (.int l1), some (.int (l2 + (-1 : Int32)))]) rfl ?_
      refine w_goto 94 dX38_close_111 (by decide) ?_
      exact (ih _ _ _ _ _ hf).to ⟨rfl, rfl, rfl, trivial⟩
def fX38_close_b74 (N : Nat) (l0 : Nat) (l1 : Int32) (s0 : Nat) (s1 : Int32) (h : eH) : Option (Unit × eH) :=
  (k_ok 37 h s0).bind fun _ =>
  (fX38_layNumber N s0 s1 (2 : Int32) h).bind fun q2 =>
  (g_I 37 q2.2 l0 7).bind fun x3 =>
  (k_ok 37 q2.2 l0).bind fun _ =>
  (fX38_layNumber N l0 x3 (2 : Int32) q2.2).bind fun q6 =>
  (g_I 37 q6.2 l0 11).bind fun x7 =>
  fX38_close_b94 N N l0 l1 (x7 - (1 : Int32)) q6.2
theorem pX38_close_b74 {w : eW} {d : Nat} (hd : 3 ≤ d + 1) {N : Nat} {l0 : Nat} {l1 : Int32} {s0 : Nat} {s1 : Int32} {h : eH} {q} (hf : fX38_close_b74 N l0 l1 s0 s1 h = some q) : wp w (d + 1) YX38_close 74 [some (.ref l0), some (.int l1), none] [.int s1, .ref s0] h (e_is (e_rn c_V q)) := by
  unfold fX38_close_b74 at hf
  refine w_iconst dX38_close_74 (v := 2) (by decide) ?_
  obtain ⟨_, b1, hf⟩ := Option.bind_eq_some_iff.mp hf
  refine x_cnV hf (e_stV (Yc := YX38_layNumber) (ci := 37) (av := [.int s1, .int (2 : Int32)]) (st := []) dX38_close_75 q5072 mX38_layNumber rfl (k_ok_some b1).1 (k_ok_some b1).2) mX38_layNumber.2.2.1 mX38_layNumber.2.2.2.2.1 (Nat.le_of_ble_eq_true rfl) (Nat.le_of_ble_eq_true rfl) (fun q hq => pX38_layNumber (by omega) hq) (fun q2 hf => ?_)
  refine w_aload_n dX38_close_78 rfl rfl ?_
  refine w_aload_n dX38_close_79 rfl rfl ?_
  obtain ⟨x3, b4, hf⟩ := Option.bind_eq_some_iff.mp hf
  refine GX38_69 b4 dX38_close_80 rfl ?_
  refine w_iconst dX38_close_83 (v := 2) (by decide) ?_
  obtain ⟨_, b5, hf⟩ := Option.bind_eq_some_iff.mp hf
  refine x_cnV hf (e_stV (Yc := YX38_layNumber) (ci := 37) (av := [.int x3, .int (2 : Int32)]) (st := []) dX38_close_84 q5072 mX38_layNumber rfl (k_ok_some b5).1 (k_ok_some b5).2) mX38_layNumber.2.2.1 mX38_layNumber.2.2.2.2.1 (Nat.le_of_ble_eq_true rfl) (Nat.le_of_ble_eq_true rfl) (fun q hq => pX38_layNumber (by omega) hq) (fun q6 hf => ?_)
  refine w_aload_n dX38_close_87 rfl rfl ?_
  obtain ⟨x7, b8, hf⟩ := Option.bind_eq_some_iff.mp hf
  refine GX38_78 b8 dX38_close_88 rfl ?_
  refine w_iconst dX38_close_91 (v := 1) (by decide) ?_
  refine w_isub dX38_close_92 ?_
  refine w_istore_n dX38_close_93 rfl (by decide) (ls' := [some (.ref l0), some (.int l1), some (.int (x7 - (1 : Int32)))]) rfl ?_
  exact (pX38_close_b94 hd N _ _ _ _ _ hf).to ⟨rfl, rfl, rfl, trivial⟩
def fX38_close (N : Nat) (this : Nat) (h : eH) : Option (Unit × eH) :=
  (g_I 37 h this 5).bind fun x1 =>
  (k_ok 37 h this).bind fun _ =>
  (fX38_lay this (248 : Int32) h).bind fun q4 =>
  (g_I 37 q4.2 this 8).bind fun x5 =>
  (k_ok 37 q4.2 this).bind fun _ =>
  (fX38_layNumber N this x5 (4 : Int32) q4.2).bind fun q8 =>
  (k_ok 37 q8.2 this).bind fun _ =>
  (fX38_layNumber N this (25400000 : Int32) (4 : Int32) q8.2).bind fun q10 =>
  (k_ok 37 q10.2 this).bind fun _ =>
  (fX38_layNumber N this (473628672 : Int32) (4 : Int32) q10.2).bind fun q12 =>
  (k_ok 37 q12.2 this).bind fun _ =>
  (fX38_layNumber N this (1000 : Int32) (4 : Int32) q12.2).bind fun q14 =>
  (g_I 37 q14.2 this 9).bind fun x15 =>
  (k_ok 37 q14.2 this).bind fun _ =>
  (fX38_layNumber N this x15 (4 : Int32) q14.2).bind fun q18 =>
  (g_I 37 q18.2 this 10).bind fun x19 =>
  (k_ok 37 q18.2 this).bind fun _ =>
  (fX38_layNumber N this x19 (4 : Int32) q18.2).bind fun q22 =>
  (g_I 37 q22.2 this 7).bind fun x23 =>
  if x23 ≤ 0 then
    fX38_close_b74 N this x1 this (0 : Int32) q22.2
  else
    fX38_close_b74 N this x1 this (1 : Int32) q22.2
theorem pX38_close {w : eW} {d : Nat} (hd : 3 ≤ d) {N : Nat} {this : Nat} {h : eH} {q} (hf : fX38_close N this h = some q) : wm w d YX38_close [.ref this] h (e_is (e_rn c_V q)) := by
  obtain ⟨d, rfl⟩ : ∃ e, d = e + 1 := ⟨d - 1, by omega⟩
  show wp w (d + 1) YX38_close 0 [some (.ref this), none, none] [] h _
  unfold fX38_close at hf
  refine w_aload_n dX38_close_0 rfl rfl ?_
  obtain ⟨x1, b2, hf⟩ := Option.bind_eq_some_iff.mp hf
  refine GX38_66 b2 dX38_close_1 rfl ?_
  refine w_istore_n dX38_close_4 rfl (by decide) (ls' := [some (.ref this), some (.int x1), none]) rfl ?_
  refine w_aload_n dX38_close_5 rfl rfl ?_
  refine w_sipush dX38_close_6 (v := 248) (by decide) ?_
  obtain ⟨_, b3, hf⟩ := Option.bind_eq_some_iff.mp hf
  refine x_cnV hf (e_stV (Yc := YX38_lay) (ci := 37) (av := [.int (248 : Int32)]) (st := []) dX38_close_9 q5067 mX38_lay rfl (k_ok_some b3).1 (k_ok_some b3).2) mX38_lay.2.2.1 mX38_lay.2.2.2.2.1 (Nat.le_of_ble_eq_true rfl) (Nat.le_of_ble_eq_true rfl) (fun q hq => pX38_lay (by omega) hq) (fun q4 hf => ?_)
  refine w_aload_n dX38_close_12 rfl rfl ?_
  refine w_aload_n dX38_close_13 rfl rfl ?_
  obtain ⟨x5, b6, hf⟩ := Option.bind_eq_some_iff.mp hf
  refine GX38_32 b6 dX38_close_14 rfl ?_
  refine w_iconst dX38_close_17 (v := 4) (by decide) ?_
  obtain ⟨_, b7, hf⟩ := Option.bind_eq_some_iff.mp hf
  refine x_cnV hf (e_stV (Yc := YX38_layNumber) (ci := 37) (av := [.int x5, .int (4 : Int32)]) (st := []) dX38_close_18 q5072 mX38_layNumber rfl (k_ok_some b7).1 (k_ok_some b7).2) mX38_layNumber.2.2.1 mX38_layNumber.2.2.2.2.1 (Nat.le_of_ble_eq_true rfl) (Nat.le_of_ble_eq_true rfl) (fun q hq => pX38_layNumber (by omega) hq) (fun q8 hf => ?_)
  refine w_aload_n dX38_close_21 rfl rfl ?_
  refine w_ldc dX38_close_22 q5071 ?_
  refine w_iconst dX38_close_24 (v := 4) (by decide) ?_
  obtain ⟨_, b9, hf⟩ := Option.bind_eq_some_iff.mp hf
  refine x_cnV hf (e_stV (Yc := YX38_layNumber) (ci := 37) (av := [.int (25400000 : Int32), .int (4 : Int32)]) (st := []) dX38_close_25 q5072 mX38_layNumber rfl (k_ok_some b9).1 (k_ok_some b9).2) mX38_layNumber.2.2.1 mX38_layNumber.2.2.2.2.1 (Nat.le_of_ble_eq_true rfl) (Nat.le_of_ble_eq_true rfl) (fun q hq => pX38_layNumber (by omega) hq) (fun q10 hf => ?_)
  refine w_aload_n dX38_close_28 rfl rfl ?_
  refine w_ldc dX38_close_29 q5076 ?_
  refine w_iconst dX38_close_31 (v := 4) (by decide) ?_
  obtain ⟨_, b11, hf⟩ := Option.bind_eq_some_iff.mp hf
  refine x_cnV hf (e_stV (Yc := YX38_layNumber) (ci := 37) (av := [.int (473628672 : Int32), .int (4 : Int32)]) (st := []) dX38_close_32 q5072 mX38_layNumber rfl (k_ok_some b11).1 (k_ok_some b11).2) mX38_layNumber.2.2.1 mX38_layNumber.2.2.2.2.1 (Nat.le_of_ble_eq_true rfl) (Nat.le_of_ble_eq_true rfl) (fun q hq => pX38_layNumber (by omega) hq) (fun q12 hf => ?_)
  refine w_aload_n dX38_close_35 rfl rfl ?_
  refine w_sipush dX38_close_36 (v := 1000) (by decide) ?_
  refine w_iconst dX38_close_39 (v := 4) (by decide) ?_
  obtain ⟨_, b13, hf⟩ := Option.bind_eq_some_iff.mp hf
  refine x_cnV hf (e_stV (Yc := YX38_layNumber) (ci := 37) (av := [.int (1000 : Int32), .int (4 : Int32)]) (st := []) dX38_close_40 q5072 mX38_layNumber rfl (k_ok_some b13).1 (k_ok_some b13).2) mX38_layNumber.2.2.1 mX38_layNumber.2.2.2.2.1 (Nat.le_of_ble_eq_true rfl) (Nat.le_of_ble_eq_true rfl) (fun q hq => pX38_layNumber (by omega) hq) (fun q14 hf => ?_)
  refine w_aload_n dX38_close_43 rfl rfl ?_
  refine w_aload_n dX38_close_44 rfl rfl ?_
  obtain ⟨x15, b16, hf⟩ := Option.bind_eq_some_iff.mp hf
  refine GX38_72 b16 dX38_close_45 rfl ?_
  refine w_iconst dX38_close_48 (v := 4) (by decide) ?_
  obtain ⟨_, b17, hf⟩ := Option.bind_eq_some_iff.mp hf
  refine x_cnV hf (e_stV (Yc := YX38_layNumber) (ci := 37) (av := [.int x15, .int (4 : Int32)]) (st := []) dX38_close_49 q5072 mX38_layNumber rfl (k_ok_some b17).1 (k_ok_some b17).2) mX38_layNumber.2.2.1 mX38_layNumber.2.2.2.2.1 (Nat.le_of_ble_eq_true rfl) (Nat.le_of_ble_eq_true rfl) (fun q hq => pX38_layNumber (by omega) hq) (fun q18 hf => ?_)
  refine w_aload_n dX38_close_52 rfl rfl ?_
  refine w_aload_n dX38_close_53 rfl rfl ?_
  obtain ⟨x19, b20, hf⟩ := Option.bind_eq_some_iff.mp hf
  refine GX38_75 b20 dX38_close_54 rfl ?_
  refine w_iconst dX38_close_57 (v := 4) (by decide) ?_
  obtain ⟨_, b21, hf⟩ := Option.bind_eq_some_iff.mp hf
  refine x_cnV hf (e_stV (Yc := YX38_layNumber) (ci := 37) (av := [.int x19, .int (4 : Int32)]) (st := []) dX38_close_58 q5072 mX38_layNumber rfl (k_ok_some b21).1 (k_ok_some b21).2) mX38_layNumber.2.2.1 mX38_layNumber.2.2.2.2.1 (Nat.le_of_ble_eq_true rfl) (Nat.le_of_ble_eq_true rfl) (fun q hq => pX38_layNumber (by omega) hq) (fun q22 hf => ?_)
  refine w_aload_n dX38_close_61 rfl rfl ?_
  refine w_aload_n dX38_close_62 rfl rfl ?_
  obtain ⟨x23, b24, hf⟩ := Option.bind_eq_some_iff.mp hf
  refine GX38_69 b24 dX38_close_63 rfl ?_
  refine w_if_le 73 dX38_close_66 (by decide) (fun c25 => ?_) (fun c25 => ?_)
  · replace hf := (if_pos (show x23 ≤ 0 from c25)).symm.trans hf
    refine w_iconst dX38_close_73 (v := 0) (by decide) ?_
    exact (pX38_close_b74 hd hf).to ⟨rfl, rfl, trivial⟩
  · replace hf := (if_neg (show ¬ (x23 ≤ 0) from c25)).symm.trans hf
    refine w_iconst dX38_close_69 (v := 1) (by decide) ?_
    refine w_goto 74 dX38_close_70 (by decide) ?_
    exact (pX38_close_b74 hd hf).to ⟨rfl, rfl, trivial⟩
abbrev cX35_run : ByteArray := prog_37_method_193_code
def yX35_run : MethodName := ⟨RX35, "run", "()I"⟩
def YX35_run : eY := (yX35_run, cX35_run, 2, (Option.some FieldType.int), [])
theorem mX35_run : e_mv YX35_run RX35 0 := ⟨q5057, qs232, q5058, by decide, by decide +kernel, (e_sig (by decide +kernel))⟩
theorem dX35_run_0 : decode cX35_run 0 = .ok (.aload_n 0, 1) := dc_42 (by decide +kernel)
theorem dX35_run_1 : decode cX35_run 1 = .ok (.invokevirtual 249, 3) := dc_182 (a := 0) (b := 249) (n := 249) (by decide +kernel)
theorem dX35_run_4 : decode cX35_run 4 = .ok (.aload_n 0, 1) := dc_42 (by decide +kernel)
theorem dX35_run_5 : decode cX35_run 5 = .ok (.getfield 42, 3) := dc_180 (a := 0) (b := 42) (n := 42) (by decide +kernel)
theorem dX35_run_8 : decode cX35_run 8 = .ok (.invokevirtual 1267, 3) := dc_182 (a := 4) (b := 243) (n := 1267) (by decide +kernel)
theorem dX35_run_11 : decode cX35_run 11 = .ok (.aload_n 0, 1) := dc_42 (by decide +kernel)
theorem dX35_run_12 : decode cX35_run 12 = .ok (.getfield 321, 3) := dc_180 (a := 1) (b := 65) (n := 321) (by decide +kernel)
theorem dX35_run_15 : decode cX35_run 15 = .ok (.ifCond .ne 47, 3) := dc_154 (a := 0) (b := 47) (v := 47) (by decide +kernel)
theorem dX35_run_18 : decode cX35_run 18 = .ok (.aload_n 0, 1) := dc_42 (by decide +kernel)
theorem dX35_run_19 : decode cX35_run 19 = .ok (.getfield 356, 3) := dc_180 (a := 1) (b := 100) (n := 356) (by decide +kernel)
theorem dX35_run_22 : decode cX35_run 22 = .ok (.ifCond .ne 40, 3) := dc_154 (a := 0) (b := 40) (v := 40) (by decide +kernel)
theorem dX35_run_25 : decode cX35_run 25 = .ok (.aload_n 0, 1) := dc_42 (by decide +kernel)
theorem dX35_run_26 : decode cX35_run 26 = .ok (.invokevirtual 487, 3) := dc_182 (a := 1) (b := 231) (n := 487) (by decide +kernel)
theorem dX35_run_29 : decode cX35_run 29 = .ok (.istore_n 1, 1) := dc_60 (by decide +kernel)
theorem dX35_run_30 : decode cX35_run 30 = .ok (.iload_n 1, 1) := dc_27 (by decide +kernel)
theorem dX35_run_31 : decode cX35_run 31 = .ok (.iconst (-1), 1) := dc_2 (by decide +kernel)
theorem dX35_run_32 : decode cX35_run 32 = .ok (.if_icmp .ne 11, 3) := dc_160 (a := 0) (b := 11) (v := 11) (by decide +kernel)
theorem dX35_run_35 : decode cX35_run 35 = .ok (.aload_n 0, 1) := dc_42 (by decide +kernel)
theorem dX35_run_36 : decode cX35_run 36 = .ok (.iconst 1, 1) := dc_4 (by decide +kernel)
theorem dX35_run_37 : decode cX35_run 37 = .ok (.putfield 356, 3) := dc_181 (a := 1) (b := 100) (n := 356) (by decide +kernel)
theorem dX35_run_40 : decode cX35_run 40 = .ok (.goto 19, 3) := dc_167 (a := 0) (b := 19) (v := 19) (by decide +kernel)
theorem dX35_run_43 : decode cX35_run 43 = .ok (.aload_n 0, 1) := dc_42 (by decide +kernel)
theorem dX35_run_44 : decode cX35_run 44 = .ok (.invokevirtual 497, 3) := dc_182 (a := 1) (b := 241) (n := 497) (by decide +kernel)
theorem dX35_run_47 : decode cX35_run 47 = .ok (.aload_n 0, 1) := dc_42 (by decide +kernel)
theorem dX35_run_48 : decode cX35_run 48 = .ok (.getfield 321, 3) := dc_180 (a := 1) (b := 65) (n := 321) (by decide +kernel)
theorem dX35_run_51 : decode cX35_run 51 = .ok (.ifCond .ne 8, 3) := dc_154 (a := 0) (b := 8) (v := 8) (by decide +kernel)
theorem dX35_run_54 : decode cX35_run 54 = .ok (.aload_n 0, 1) := dc_42 (by decide +kernel)
theorem dX35_run_55 : decode cX35_run 55 = .ok (.iload_n 1, 1) := dc_27 (by decide +kernel)
theorem dX35_run_56 : decode cX35_run 56 = .ok (.invokevirtual 1269, 3) := dc_182 (a := 4) (b := 245) (n := 1269) (by decide +kernel)
theorem dX35_run_59 : decode cX35_run 59 = .ok (.goto (-48), 3) := dc_167 (a := 255) (b := 208) (v := -48) (by decide +kernel)
theorem dX35_run_62 : decode cX35_run 62 = .ok (.aload_n 0, 1) := dc_42 (by decide +kernel)
theorem dX35_run_63 : decode cX35_run 63 = .ok (.invokevirtual 873, 3) := dc_182 (a := 3) (b := 105) (n := 873) (by decide +kernel)
theorem dX35_run_66 : decode cX35_run 66 = .ok (.aload_n 0, 1) := dc_42 (by decide +kernel)
theorem dX35_run_67 : decode cX35_run 67 = .ok (.getfield 321, 3) := dc_180 (a := 1) (b := 65) (n := 321) (by decide +kernel)
theorem dX35_run_70 : decode cX35_run 70 = .ok (.ifCond .ne 15, 3) := dc_154 (a := 0) (b := 15) (v := 15) (by decide +kernel)
theorem dX35_run_73 : decode cX35_run 73 = .ok (.aload_n 0, 1) := dc_42 (by decide +kernel)
theorem dX35_run_74 : decode cX35_run 74 = .ok (.invokevirtual 587, 3) := dc_182 (a := 2) (b := 75) (n := 587) (by decide +kernel)
theorem dX35_run_77 : decode cX35_run 77 = .ok (.iconst 2, 1) := dc_5 (by decide +kernel)
theorem dX35_run_78 : decode cX35_run 78 = .ok (.if_icmp .ne 7, 3) := dc_160 (a := 0) (b := 7) (v := 7) (by decide +kernel)
theorem dX35_run_81 : decode cX35_run 81 = .ok (.aload_n 0, 1) := dc_42 (by decide +kernel)
theorem dX35_run_82 : decode cX35_run 82 = .ok (.invokevirtual 1136, 3) := dc_182 (a := 4) (b := 112) (n := 1136) (by decide +kernel)
theorem dX35_run_85 : decode cX35_run 85 = .ok (.aload_n 0, 1) := dc_42 (by decide +kernel)
theorem dX35_run_86 : decode cX35_run 86 = .ok (.getfield 321, 3) := dc_180 (a := 1) (b := 65) (n := 321) (by decide +kernel)
theorem dX35_run_89 : decode cX35_run 89 = .ok (.ifCond .ne 23, 3) := dc_154 (a := 0) (b := 23) (v := 23) (by decide +kernel)
theorem dX35_run_92 : decode cX35_run 92 = .ok (.aload_n 0, 1) := dc_42 (by decide +kernel)
theorem dX35_run_93 : decode cX35_run 93 = .ok (.getfield 323, 3) := dc_180 (a := 1) (b := 67) (n := 323) (by decide +kernel)
theorem dX35_run_96 : decode cX35_run 96 = .ok (.ifCond .gt 10, 3) := dc_157 (a := 0) (b := 10) (v := 10) (by decide +kernel)
theorem dX35_run_99 : decode cX35_run 99 = .ok (.aload_n 0, 1) := dc_42 (by decide +kernel)
theorem dX35_run_100 : decode cX35_run 100 = .ok (.getfield 350, 3) := dc_180 (a := 1) (b := 94) (n := 350) (by decide +kernel)
theorem dX35_run_103 : decode cX35_run 103 = .ok (.ifCond .le 9, 3) := dc_158 (a := 0) (b := 9) (v := 9) (by decide +kernel)
theorem dX35_run_106 : decode cX35_run 106 = .ok (.aload_n 0, 1) := dc_42 (by decide +kernel)
theorem dX35_run_107 : decode cX35_run 107 = .ok (.bipush 9, 2) := dc_16 (a := 9) (v := 9) (by decide +kernel)
theorem dX35_run_109 : decode cX35_run 109 = .ok (.invokevirtual 428, 3) := dc_182 (a := 1) (b := 172) (n := 428) (by decide +kernel)
theorem dX35_run_112 : decode cX35_run 112 = .ok (.aload_n 0, 1) := dc_42 (by decide +kernel)
theorem dX35_run_113 : decode cX35_run 113 = .ok (.getfield 321, 3) := dc_180 (a := 1) (b := 65) (n := 321) (by decide +kernel)
theorem dX35_run_116 : decode cX35_run 116 = .ok (.ifCond .ne 28, 3) := dc_154 (a := 0) (b := 28) (v := 28) (by decide +kernel)
theorem dX35_run_119 : decode cX35_run 119 = .ok (.aload_n 0, 1) := dc_42 (by decide +kernel)
theorem dX35_run_120 : decode cX35_run 120 = .ok (.iconst 2, 1) := dc_5 (by decide +kernel)
theorem dX35_run_121 : decode cX35_run 121 = .ok (.iconst 0, 1) := dc_3 (by decide +kernel)
theorem dX35_run_122 : decode cX35_run 122 = .ok (.ldc 7, 2) := dc_18 (a := 7) (by decide +kernel)
theorem dX35_run_124 : decode cX35_run 124 = .ok (.iconst 0, 1) := dc_3 (by decide +kernel)
theorem dX35_run_125 : decode cX35_run 125 = .ok (.iconst 2, 1) := dc_5 (by decide +kernel)
theorem dX35_run_126 : decode cX35_run 126 = .ok (.iconst (-1), 1) := dc_2 (by decide +kernel)
theorem dX35_run_127 : decode cX35_run 127 = .ok (.iconst 0, 1) := dc_3 (by decide +kernel)
theorem dX35_run_128 : decode cX35_run 128 = .ok (.invokevirtual 794, 3) := dc_182 (a := 3) (b := 26) (n := 794) (by decide +kernel)
theorem dX35_run_131 : decode cX35_run 131 = .ok (.aload_n 0, 1) := dc_42 (by decide +kernel)
theorem dX35_run_132 : decode cX35_run 132 = .ok (.iconst 4, 1) := dc_7 (by decide +kernel)
theorem dX35_run_133 : decode cX35_run 133 = .ok (.sipush (-10000), 3) := dc_17 (a := 216) (b := 240) (v := -10000) (by decide +kernel)
theorem dX35_run_136 : decode cX35_run 136 = .ok (.iconst 0, 1) := dc_3 (by decide +kernel)
theorem dX35_run_137 : decode cX35_run 137 = .ok (.iconst 0, 1) := dc_3 (by decide +kernel)
theorem dX35_run_138 : decode cX35_run 138 = .ok (.iconst 0, 1) := dc_3 (by decide +kernel)
theorem dX35_run_139 : decode cX35_run 139 = .ok (.iconst (-1), 1) := dc_2 (by decide +kernel)
theorem dX35_run_140 : decode cX35_run 140 = .ok (.iconst 0, 1) := dc_3 (by decide +kernel)
theorem dX35_run_141 : decode cX35_run 141 = .ok (.invokevirtual 794, 3) := dc_182 (a := 3) (b := 26) (n := 794) (by decide +kernel)
theorem dX35_run_144 : decode cX35_run 144 = .ok (.aload_n 0, 1) := dc_42 (by decide +kernel)
theorem dX35_run_145 : decode cX35_run 145 = .ok (.getfield 42, 3) := dc_180 (a := 0) (b := 42) (n := 42) (by decide +kernel)
theorem dX35_run_148 : decode cX35_run 148 = .ok (.invokevirtual 1272, 3) := dc_182 (a := 4) (b := 248) (n := 1272) (by decide +kernel)
theorem dX35_run_151 : decode cX35_run 151 = .ok (.aload_n 0, 1) := dc_42 (by decide +kernel)
theorem dX35_run_152 : decode cX35_run 152 = .ok (.getfield 321, 3) := dc_180 (a := 1) (b := 65) (n := 321) (by decide +kernel)
theorem dX35_run_155 : decode cX35_run 155 = .ok (.ifCond .ne 7, 3) := dc_154 (a := 0) (b := 7) (v := 7) (by decide +kernel)
theorem dX35_run_158 : decode cX35_run 158 = .ok (.iconst 0, 1) := dc_3 (by decide +kernel)
theorem dX35_run_159 : decode cX35_run 159 = .ok (.goto 15, 3) := dc_167 (a := 0) (b := 15) (v := 15) (by decide +kernel)
theorem dX35_run_162 : decode cX35_run 162 = .ok (.ldc 14, 2) := dc_18 (a := 14) (by decide +kernel)
theorem dX35_run_164 : decode cX35_run 164 = .ok (.aload_n 0, 1) := dc_42 (by decide +kernel)
theorem dX35_run_165 : decode cX35_run 165 = .ok (.getfield 321, 3) := dc_180 (a := 1) (b := 65) (n := 321) (by decide +kernel)
theorem dX35_run_168 : decode cX35_run 168 = .ok (.imul, 1) := dc_104 (by decide +kernel)
theorem dX35_run_169 : decode cX35_run 169 = .ok (.aload_n 0, 1) := dc_42 (by decide +kernel)
theorem dX35_run_170 : decode cX35_run 170 = .ok (.getfield 329, 3) := dc_180 (a := 1) (b := 73) (n := 329) (by decide +kernel)
theorem dX35_run_173 : decode cX35_run 173 = .ok (.iadd, 1) := dc_96 (by decide +kernel)
theorem dX35_run_174 : decode cX35_run 174 = .ok (.ireturn, 1) := dc_172 (by decide +kernel)
theorem GX35_356 {w : eW} {d : Nat} {Y : eY} {pc : Nat} {ls : eL} {st : List Value} {h : eH} {Q : eO → eH → Prop} {a : Nat} {x : Int32} (hf : g_I 34 h a 47 = some x) (hd : decode Y.2.1 pc = .ok (.getfield 356, 3)) (hY : Y.1.cls = RX35) (kk : wp w d Y (pc + 3) ls (.int x :: st) h Q) : wp w d Y pc ls (.ref a :: st) h Q := x_gI (ci := 34) (k := 47) hf hd rfl (by decide) (by rw [hY]; exact q4549) kk
def fX35_run_b59 (N : Nat) (sE : Nat → Int32 → eH → Option (Unit × eH)) (sL : Nat → Int32 → Int64 → Int64 → eH → Option (Int32 × eH)) (sN : Nat → eH → Option (Int32 × eH)) (k11 : Nat → eH → Option (Int32 × eH)) (l0 : Nat) (h : eH) : Option (Int32 × eH) :=
  k11 l0 h
theorem pX35_run_b59 {w : eW} {d : Nat} {dr : Nat} (hd : dr + 20 ≤ d + 1) (hdr : 12 ≤ dr) {N : Nat} {sE : Nat → Int32 → eH → Option (Unit × eH)} {sL : Nat → Int32 → Int64 → Int64 → eH → Option (Int32 × eH)} {sN : Nat → eH → Option (Int32 × eH)} (hsE : ∀ a t0 h q, sE a t0 h = some q → wm w dr YX35_expand [.ref a, .int t0] h (e_is (e_rn c_V q))) (hsL : ∀ a t0 t1 t2 h q, sL a t0 t1 t2 h = some q → wm w dr YX35_layBox [.ref a, .int t0, .long t1, .long t2] h (e_is (e_rn c_I q))) (hsN : ∀ a h q, sN a h = some q → wm w dr YX35_number [.ref a] h (e_is (e_rn c_I q))) {k11 : Nat → eH → Option (Int32 × eH)} (hk11 : ∀ l0 h q, k11 l0 h = some q → wp w (d + 1) YX35_run 11 [some (.ref l0), none] [] h (e_is (e_rn c_I q))) {l0 : Nat} {h : eH} {q} (hf : fX35_run_b59 N sE sL sN k11 l0 h = some q) : wp w (d + 1) YX35_run 59 [some (.ref l0), none] [] h (e_is (e_rn c_I q)) := by
  unfold fX35_run_b59 at hf
  refine w_goto 11 dX35_run_59 (by decide) ?_
  exact (hk11 _ _ _ hf).to ⟨rfl, trivial⟩
def fX35_run_b174 (N : Nat) (sE : Nat → Int32 → eH → Option (Unit × eH)) (sL : Nat → Int32 → Int64 → Int64 → eH → Option (Int32 × eH)) (sN : Nat → eH → Option (Int32 × eH)) (s0 : Int32) (h : eH) : Option (Int32 × eH) :=
  some (s0, h)
theorem pX35_run_b174 {w : eW} {d : Nat} {dr : Nat} (hd : dr + 20 ≤ d + 1) (hdr : 12 ≤ dr) {N : Nat} {sE : Nat → Int32 → eH → Option (Unit × eH)} {sL : Nat → Int32 → Int64 → Int64 → eH → Option (Int32 × eH)} {sN : Nat → eH → Option (Int32 × eH)} (hsE : ∀ a t0 h q, sE a t0 h = some q → wm w dr YX35_expand [.ref a, .int t0] h (e_is (e_rn c_V q))) (hsL : ∀ a t0 t1 t2 h q, sL a t0 t1 t2 h = some q → wm w dr YX35_layBox [.ref a, .int t0, .long t1, .long t2] h (e_is (e_rn c_I q))) (hsN : ∀ a h q, sN a h = some q → wm w dr YX35_number [.ref a] h (e_is (e_rn c_I q))) {s0 : Int32} {h : eH} {q} (hf : fX35_run_b174 N sE sL sN s0 h = some q) : wp w (d + 1) YX35_run 174 [none, none] [.int s0] h (e_is (e_rn c_I q)) := by
  unfold fX35_run_b174 at hf
  cases hf
  exact w_iret dX35_run_174 rfl rfl rfl
def fX35_run_b144 (N : Nat) (sE : Nat → Int32 → eH → Option (Unit × eH)) (sL : Nat → Int32 → Int64 → Int64 → eH → Option (Int32 × eH)) (sN : Nat → eH → Option (Int32 × eH)) (l0 : Nat) (h : eH) : Option (Int32 × eH) :=
  (g_A 34 h l0 7).bind fun a1 =>
  (k_ok 37 h a1).bind fun _ =>
  (fX38_close N a1 h).bind fun q4 =>
  (g_I 34 q4.2 l0 46).bind fun x5 =>
  if ¬ x5 = 0 then
    (g_I 34 q4.2 l0 46).bind fun x8 =>
    (g_I 34 q4.2 l0 10).bind fun x10 =>
    fX35_run_b174 N sE sL sN (((100000 : Int32) * x8) + x10) q4.2
  else
    fX35_run_b174 N sE sL sN (0 : Int32) q4.2
theorem pX35_run_b144 {w : eW} {d : Nat} {dr : Nat} (hd : dr + 20 ≤ d + 1) (hdr : 12 ≤ dr) {N : Nat} {sE : Nat → Int32 → eH → Option (Unit × eH)} {sL : Nat → Int32 → Int64 → Int64 → eH → Option (Int32 × eH)} {sN : Nat → eH → Option (Int32 × eH)} (hsE : ∀ a t0 h q, sE a t0 h = some q → wm w dr YX35_expand [.ref a, .int t0] h (e_is (e_rn c_V q))) (hsL : ∀ a t0 t1 t2 h q, sL a t0 t1 t2 h = some q → wm w dr YX35_layBox [.ref a, .int t0, .long t1, .long t2] h (e_is (e_rn c_I q))) (hsN : ∀ a h q, sN a h = some q → wm w dr YX35_number [.ref a] h (e_is (e_rn c_I q))) {l0 : Nat} {h : eH} {q} (hf : fX35_run_b144 N sE sL sN l0 h = some q) : wp w (d + 1) YX35_run 144 [some (.ref l0), none] [] h (e_is (e_rn c_I q)) := by
  unfold fX35_run_b144 at hf
  refine w_aload_n dX35_run_144 rfl rfl ?_
  obtain ⟨a1, b2, hf⟩ := Option.bind_eq_some_iff.mp hf
  refine GX35_42 b2 dX35_run_145 rfl ?_
  obtain ⟨_, b3, hf⟩ := Option.bind_eq_some_iff.mp hf
  refine x_cnV hf (e_stV (Yc := YX38_close) (ci := 37) (av := []) (st := []) dX35_run_148 q6048 mX38_close rfl (k_ok_some b3).1 (k_ok_some b3).2) mX38_close.2.2.1 mX38_close.2.2.2.2.1 (Nat.le_of_ble_eq_true rfl) (Nat.le_of_ble_eq_true rfl) (fun q hq => pX38_close (by omega) hq) (fun q4 hf => ?_)
  refine w_aload_n dX35_run_151 rfl rfl ?_
  obtain ⟨x5, b6, hf⟩ := Option.bind_eq_some_iff.mp hf
  refine GX35_321 b6 dX35_run_152 rfl ?_
  refine w_if_ne 162 dX35_run_155 (by decide) (fun c7 => ?_) (fun c7 => ?_)
  · replace hf := (if_pos (show ¬ x5 = 0 from c7)).symm.trans hf
    refine w_ldc dX35_run_162 q4120 ?_
    refine w_aload_n dX35_run_164 rfl rfl ?_
    obtain ⟨x8, b9, hf⟩ := Option.bind_eq_some_iff.mp hf
    refine GX35_321 b9 dX35_run_165 rfl ?_
    refine w_imul dX35_run_168 ?_
    refine w_aload_n dX35_run_169 rfl rfl ?_
    obtain ⟨x10, b11, hf⟩ := Option.bind_eq_some_iff.mp hf
    refine GX35_329 b11 dX35_run_170 rfl ?_
    refine w_iadd dX35_run_173 ?_
    exact (pX35_run_b174 hd hdr hsE hsL hsN hf).to trivial
  · replace hf := (if_neg (show ¬ (¬ x5 = 0) from (fun z => z c7))).symm.trans hf
    refine w_iconst dX35_run_158 (v := 0) (by decide) ?_
    refine w_goto 174 dX35_run_159 (by decide) ?_
    exact (pX35_run_b174 hd hdr hsE hsL hsN hf).to trivial
def fX35_run_b112 (N : Nat) (sE : Nat → Int32 → eH → Option (Unit × eH)) (sL : Nat → Int32 → Int64 → Int64 → eH → Option (Int32 × eH)) (sN : Nat → eH → Option (Int32 × eH)) (l0 : Nat) (h : eH) : Option (Int32 × eH) :=
  (g_I 34 h l0 46).bind fun x1 =>
  if ¬ x1 = 0 then
    fX35_run_b144 N sE sL sN l0 h
  else
    (k_ok 34 h l0).bind fun _ =>
    (fX35_outer N sL l0 (2 : Int32) (0 : Int32) (65536 : Int32) (0 : Int32) (2 : Int32) (-1 : Int32) (0 : Int32) h).bind fun q5 =>
    (k_ok 34 q5.2 l0).bind fun _ =>
    (fX35_outer N sL l0 (4 : Int32) (-10000 : Int32) (0 : Int32) (0 : Int32) (0 : Int32) (-1 : Int32) (0 : Int32) q5.2).bind fun q7 =>
    fX35_run_b144 N sE sL sN l0 q7.2
theorem pX35_run_b112 {w : eW} {d : Nat} {dr : Nat} (hd : dr + 20 ≤ d + 1) (hdr : 12 ≤ dr) {N : Nat} {sE : Nat → Int32 → eH → Option (Unit × eH)} {sL : Nat → Int32 → Int64 → Int64 → eH → Option (Int32 × eH)} {sN : Nat → eH → Option (Int32 × eH)} (hsE : ∀ a t0 h q, sE a t0 h = some q → wm w dr YX35_expand [.ref a, .int t0] h (e_is (e_rn c_V q))) (hsL : ∀ a t0 t1 t2 h q, sL a t0 t1 t2 h = some q → wm w dr YX35_layBox [.ref a, .int t0, .long t1, .long t2] h (e_is (e_rn c_I q))) (hsN : ∀ a h q, sN a h = some q → wm w dr YX35_number [.ref a] h (e_is (e_rn c_I q))) {l0 : Nat} {h : eH} {q} (hf : fX35_run_b112 N sE sL sN l0 h = some q) : wp w (d + 1) YX35_run 112 [some (.ref l0), none] [] h (e_is (e_rn c_I q)) := by
  unfold fX35_run_b112 at hf
  refine w_aload_n dX35_run_112 rfl rfl ?_
  obtain ⟨x1, b2, hf⟩ := Option.bind_eq_some_iff.mp hf
  refine GX35_321 b2 dX35_run_113 rfl ?_
  refine w_if_ne 144 dX35_run_116 (by decide) (fun c3 => ?_) (fun c3 => ?_)
  · replace hf := (if_pos (show ¬ x1 = 0 from c3)).symm.trans hf
    exact (pX35_run_b144 hd hdr hsE hsL hsN hf).to ⟨rfl, trivial⟩
  · replace hf := (if_neg (show ¬ (¬ x1 = 0) from (fun z => z c3))).symm.trans hf
    refine w_aload_n dX35_run_119 rfl rfl ?_
    refine w_iconst dX35_run_120 (v := 2) (by decide) ?_
    refine w_iconst dX35_run_121 (v := 0) (by decide) ?_
    refine w_ldc dX35_run_122 q4119 ?_
    refine w_iconst dX35_run_124 (v := 0) (by decide) ?_
    refine w_iconst dX35_run_125 (v := 2) (by decide) ?_
    refine w_iconst dX35_run_126 (v := -1) (by decide) ?_
    refine w_iconst dX35_run_127 (v := 0) (by decide) ?_
    obtain ⟨_, b4, hf⟩ := Option.bind_eq_some_iff.mp hf
    refine x_cnV hf (e_stV (Yc := YX35_outer) (ci := 34) (av := [.int (2 : Int32), .int (0 : Int32), .int (65536 : Int32), .int (0 : Int32), .int (2 : Int32), .int (-1 : Int32), .int (0 : Int32)]) (st := []) dX35_run_128 q5465 mX35_outer rfl (k_ok_some b4).1 (k_ok_some b4).2) mX35_outer.2.2.1 mX35_outer.2.2.2.2.1 (Nat.le_of_ble_eq_true rfl) (Nat.le_of_ble_eq_true rfl) (fun q hq => pX35_outer (by omega) hdr hsL hq) (fun q5 hf => ?_)
    refine w_aload_n dX35_run_131 rfl rfl ?_
    refine w_iconst dX35_run_132 (v := 4) (by decide) ?_
    refine w_sipush dX35_run_133 (v := -10000) (by decide) ?_
    refine w_iconst dX35_run_136 (v := 0) (by decide) ?_
    refine w_iconst dX35_run_137 (v := 0) (by decide) ?_
    refine w_iconst dX35_run_138 (v := 0) (by decide) ?_
    refine w_iconst dX35_run_139 (v := -1) (by decide) ?_
    refine w_iconst dX35_run_140 (v := 0) (by decide) ?_
    obtain ⟨_, b6, hf⟩ := Option.bind_eq_some_iff.mp hf
    refine x_cnV hf (e_stV (Yc := YX35_outer) (ci := 34) (av := [.int (4 : Int32), .int (-10000 : Int32), .int (0 : Int32), .int (0 : Int32), .int (0 : Int32), .int (-1 : Int32), .int (0 : Int32)]) (st := []) dX35_run_141 q5465 mX35_outer rfl (k_ok_some b6).1 (k_ok_some b6).2) mX35_outer.2.2.1 mX35_outer.2.2.2.2.1 (Nat.le_of_ble_eq_true rfl) (Nat.le_of_ble_eq_true rfl) (fun q hq => pX35_outer (by omega) hdr hsL hq) (fun q7 hf => ?_)
    exact (pX35_run_b144 hd hdr hsE hsL hsN hf).to ⟨rfl, trivial⟩
def fX35_run_b106 (N : Nat) (sE : Nat → Int32 → eH → Option (Unit × eH)) (sL : Nat → Int32 → Int64 → Int64 → eH → Option (Int32 × eH)) (sN : Nat → eH → Option (Int32 × eH)) (l0 : Nat) (h : eH) : Option (Int32 × eH) :=
  (k_ok 34 h l0).bind fun _ =>
  (fX35_fail l0 (9 : Int32) h).bind fun q2 =>
  fX35_run_b112 N sE sL sN l0 q2.2
theorem pX35_run_b106 {w : eW} {d : Nat} {dr : Nat} (hd : dr + 20 ≤ d + 1) (hdr : 12 ≤ dr) {N : Nat} {sE : Nat → Int32 → eH → Option (Unit × eH)} {sL : Nat → Int32 → Int64 → Int64 → eH → Option (Int32 × eH)} {sN : Nat → eH → Option (Int32 × eH)} (hsE : ∀ a t0 h q, sE a t0 h = some q → wm w dr YX35_expand [.ref a, .int t0] h (e_is (e_rn c_V q))) (hsL : ∀ a t0 t1 t2 h q, sL a t0 t1 t2 h = some q → wm w dr YX35_layBox [.ref a, .int t0, .long t1, .long t2] h (e_is (e_rn c_I q))) (hsN : ∀ a h q, sN a h = some q → wm w dr YX35_number [.ref a] h (e_is (e_rn c_I q))) {l0 : Nat} {h : eH} {q} (hf : fX35_run_b106 N sE sL sN l0 h = some q) : wp w (d + 1) YX35_run 106 [some (.ref l0), none] [] h (e_is (e_rn c_I q)) := by
  unfold fX35_run_b106 at hf
  refine w_aload_n dX35_run_106 rfl rfl ?_
  refine w_bipush dX35_run_107 (v := 9) (by decide) ?_
  obtain ⟨_, b1, hf⟩ := Option.bind_eq_some_iff.mp hf
  refine x_cnV hf (e_stV (Yc := YX35_fail) (ci := 34) (av := [.int (9 : Int32)]) (st := []) dX35_run_109 q5109 mX35_fail rfl (k_ok_some b1).1 (k_ok_some b1).2) mX35_fail.2.2.1 mX35_fail.2.2.2.2.1 (Nat.le_of_ble_eq_true rfl) (Nat.le_of_ble_eq_true rfl) (fun q hq => pX35_fail (by omega) hq) (fun q2 hf => ?_)
  exact (pX35_run_b112 hd hdr hsE hsL hsN hf).to ⟨rfl, trivial⟩
def fX35_run_b85 (N : Nat) (sE : Nat → Int32 → eH → Option (Unit × eH)) (sL : Nat → Int32 → Int64 → Int64 → eH → Option (Int32 × eH)) (sN : Nat → eH → Option (Int32 × eH)) (l0 : Nat) (h : eH) : Option (Int32 × eH) :=
  (g_I 34 h l0 46).bind fun x1 =>
  if ¬ x1 = 0 then
    fX35_run_b112 N sE sL sN l0 h
  else
    (g_I 34 h l0 21).bind fun x4 =>
    if 0 < x4 then
      fX35_run_b106 N sE sL sN l0 h
    else
      (g_I 34 h l0 41).bind fun x7 =>
      if x7 ≤ 0 then
        fX35_run_b112 N sE sL sN l0 h
      else
        fX35_run_b106 N sE sL sN l0 h
theorem pX35_run_b85 {w : eW} {d : Nat} {dr : Nat} (hd : dr + 20 ≤ d + 1) (hdr : 12 ≤ dr) {N : Nat} {sE : Nat → Int32 → eH → Option (Unit × eH)} {sL : Nat → Int32 → Int64 → Int64 → eH → Option (Int32 × eH)} {sN : Nat → eH → Option (Int32 × eH)} (hsE : ∀ a t0 h q, sE a t0 h = some q → wm w dr YX35_expand [.ref a, .int t0] h (e_is (e_rn c_V q))) (hsL : ∀ a t0 t1 t2 h q, sL a t0 t1 t2 h = some q → wm w dr YX35_layBox [.ref a, .int t0, .long t1, .long t2] h (e_is (e_rn c_I q))) (hsN : ∀ a h q, sN a h = some q → wm w dr YX35_number [.ref a] h (e_is (e_rn c_I q))) {l0 : Nat} {h : eH} {q} (hf : fX35_run_b85 N sE sL sN l0 h = some q) : wp w (d + 1) YX35_run 85 [some (.ref l0), none] [] h (e_is (e_rn c_I q)) := by
  unfold fX35_run_b85 at hf
  refine w_aload_n dX35_run_85 rfl rfl ?_
  obtain ⟨x1, b2, hf⟩ := Option.bind_eq_some_iff.mp hf
  refine GX35_321 b2 dX35_run_86 rfl ?_
  refine w_if_ne 112 dX35_run_89 (by decide) (fun c3 => ?_) (fun c3 => ?_)
  · replace hf := (if_pos (show ¬ x1 = 0 from c3)).symm.trans hf
    exact (pX35_run_b112 hd hdr hsE hsL hsN hf).to ⟨rfl, trivial⟩
  · replace hf := (if_neg (show ¬ (¬ x1 = 0) from (fun z => z c3))).symm.trans hf
    refine w_aload_n dX35_run_92 rfl rfl ?_
    obtain ⟨x4, b5, hf⟩ := Option.bind_eq_some_iff.mp hf
    refine GX35_323 b5 dX35_run_93 rfl ?_
    refine w_if_gt 106 dX35_run_96 (by decide) (fun c6 => ?_) (fun c6 => ?_)
    · replace hf := (if_pos (show 0 < x4 from c6)).symm.trans hf
      exact (pX35_run_b106 hd hdr hsE hsL hsN hf).to ⟨rfl, trivial⟩
    · replace hf := (if_neg (show ¬ (0 < x4) from c6)).symm.trans hf
      refine w_aload_n dX35_run_99 rfl rfl ?_
      obtain ⟨x7, b8, hf⟩ := Option.bind_eq_some_iff.mp hf
      refine GX35_350 b8 dX35_run_100 rfl ?_
      refine w_if_le 112 dX35_run_103 (by decide) (fun c9 => ?_) (fun c9 => ?_)
      · replace hf := (if_pos (show x7 ≤ 0 from c9)).symm.trans hf
        exact (pX35_run_b112 hd hdr hsE hsL hsN hf).to ⟨rfl, trivial⟩
      · replace hf := (if_neg (show ¬ (x7 ≤ 0) from c9)).symm.trans hf
        exact (pX35_run_b106 hd hdr hsE hsL hsN hf).to ⟨rfl, trivial⟩
def fX35_run_b62 (N : Nat) (sE : Nat → Int32 → eH → Option (Unit × eH)) (sL : Nat → Int32 → Int64 → Int64 → eH → Option (Int32 × eH)) (sN : Nat → eH → Option (Int32 × eH)) (l0 : Nat) (h : eH) : Option (Int32 × eH) :=
  (k_ok 34 h l0).bind fun _ =>
  (fX35_endWord N l0 h).bind fun q2 =>
  (g_I 34 q2.2 l0 46).bind fun x3 =>
  if ¬ x3 = 0 then
    fX35_run_b85 N sE sL sN l0 q2.2
  else
    (k_ok 34 q2.2 l0).bind fun _ =>
    (fX35_mode l0 q2.2).bind fun q7 =>
    if ¬ q7.1 = (2 : Int32) then
      fX35_run_b85 N sE sL sN l0 q7.2
    else
      (k_ok 34 q7.2 l0).bind fun _ =>
      (fX35_endParagraph N sL l0 q7.2).bind fun q10 =>
      fX35_run_b85 N sE sL sN l0 q10.2
theorem pX35_run_b62 {w : eW} {d : Nat} {dr : Nat} (hd : dr + 20 ≤ d + 1) (hdr : 12 ≤ dr) {N : Nat} {sE : Nat → Int32 → eH → Option (Unit × eH)} {sL : Nat → Int32 → Int64 → Int64 → eH → Option (Int32 × eH)} {sN : Nat → eH → Option (Int32 × eH)} (hsE : ∀ a t0 h q, sE a t0 h = some q → wm w dr YX35_expand [.ref a, .int t0] h (e_is (e_rn c_V q))) (hsL : ∀ a t0 t1 t2 h q, sL a t0 t1 t2 h = some q → wm w dr YX35_layBox [.ref a, .int t0, .long t1, .long t2] h (e_is (e_rn c_I q))) (hsN : ∀ a h q, sN a h = some q → wm w dr YX35_number [.ref a] h (e_is (e_rn c_I q))) {l0 : Nat} {h : eH} {q} (hf : fX35_run_b62 N sE sL sN l0 h = some q) : wp w (d + 1) YX35_run 62 [some (.ref l0), none] [] h (e_is (e_rn c_I q)) := by
  unfold fX35_run_b62 at hf
  refine w_aload_n dX35_run_62 rfl rfl ?_
  obtain ⟨_, b1, hf⟩ := Option.bind_eq_some_iff.mp hf
  refine x_cnV hf (e_stV (Yc := YX35_endWord) (ci := 34) (av := []) (st := []) dX35_run_63 q5675 mX35_endWord rfl (k_ok_some b1).1 (k_ok_some b1).2) mX35_endWord.2.2.1 mX35_endWord.2.2.2.2.1 (Nat.le_of_ble_eq_true rfl) (Nat.le_of_ble_eq_true rfl) (fun q hq => pX35_endWord (by omega) hq) (fun q2 hf => ?_)
  refine w_aload_n dX35_run_66 rfl rfl ?_
  obtain ⟨x3, b4, hf⟩ := Option.bind_eq_some_iff.mp hf
  refine GX35_321 b4 dX35_run_67 rfl ?_
  refine w_if_ne 85 dX35_run_70 (by decide) (fun c5 => ?_) (fun c5 => ?_)
  · replace hf := (if_pos (show ¬ x3 = 0 from c5)).symm.trans hf
    exact (pX35_run_b85 hd hdr hsE hsL hsN hf).to ⟨rfl, trivial⟩
  · replace hf := (if_neg (show ¬ (¬ x3 = 0) from (fun z => z c5))).symm.trans hf
    refine w_aload_n dX35_run_73 rfl rfl ?_
    obtain ⟨_, b6, hf⟩ := Option.bind_eq_some_iff.mp hf
    refine x_cnI hf (e_stV (Yc := YX35_mode) (ci := 34) (av := []) (st := []) dX35_run_74 q5417 mX35_mode rfl (k_ok_some b6).1 (k_ok_some b6).2) mX35_mode.2.2.1 mX35_mode.2.2.2.2.1 (Nat.le_of_ble_eq_true rfl) (Nat.le_of_ble_eq_true rfl) (fun q hq => pX35_mode (by omega) hq) (fun q7 hf => ?_)
    refine w_iconst dX35_run_77 (v := 2) (by decide) ?_
    refine w_icmp_ne 85 dX35_run_78 (by decide) (fun c8 => ?_) (fun c8 => ?_)
    · replace hf := (if_pos (show ¬ q7.1 = (2 : Int32) from c8)).symm.trans hf
      exact (pX35_run_b85 hd hdr hsE hsL hsN hf).to ⟨rfl, trivial⟩
    · replace hf := (if_neg (show ¬ (¬ q7.1 = (2 : Int32)) from (fun z => z c8))).symm.trans hf
      refine w_aload_n dX35_run_81 rfl rfl ?_
      obtain ⟨_, b9, hf⟩ := Option.bind_eq_some_iff.mp hf
      refine x_cnV hf (e_stV (Yc := YX35_endParagraph) (ci := 34) (av := []) (st := []) dX35_run_82 q5742 mX35_endParagraph rfl (k_ok_some b9).1 (k_ok_some b9).2) mX35_endParagraph.2.2.1 mX35_endParagraph.2.2.2.2.1 (Nat.le_of_ble_eq_true rfl) (Nat.le_of_ble_eq_true rfl) (fun q hq => pX35_endParagraph (by omega) hdr hsL hq) (fun q10 hf => ?_)
      exact (pX35_run_b85 hd hdr hsE hsL hsN hf).to ⟨rfl, trivial⟩
def fX35_run_b11 (N : Nat) (sE : Nat → Int32 → eH → Option (Unit × eH)) (sL : Nat → Int32 → Int64 → Int64 → eH → Option (Int32 × eH)) (sN : Nat → eH → Option (Int32 × eH)) : Nat → Nat → eH → Option (Int32 × eH)
  | 0, _, _ => none
  | n + 1, l0, h =>
    (g_I 34 h l0 46).bind fun x1 =>
    if ¬ x1 = 0 then
      fX35_run_b62 N sE sL sN l0 h
    else
      (g_I 34 h l0 47).bind fun x4 =>
      if ¬ x4 = 0 then
        fX35_run_b62 N sE sL sN l0 h
      else
        (k_ok 34 h l0).bind fun _ =>
        (fX35_getExpanded N sE l0 h).bind fun q8 =>
        if ¬ q8.1 = (-1 : Int32) then
          (k_ok 34 q8.2 l0).bind fun _ =>
          (fX35_tick l0 q8.2).bind fun q11 =>
          (g_I 34 q11.2 l0 46).bind fun x12 =>
          if ¬ x12 = 0 then
            fX35_run_b59 N sE sL sN (fX35_run_b11 N sE sL sN n) l0 q11.2
          else
            (k_ok 34 q11.2 l0).bind fun _ =>
            (fX35_done N sE sL sN l0 q8.1 q11.2).bind fun q16 =>
            fX35_run_b59 N sE sL sN (fX35_run_b11 N sE sL sN n) l0 q16.2
        else
          (p_Z 34 q8.2 l0 47 (1 : Int32)).bind fun h17 =>
          fX35_run_b59 N sE sL sN (fX35_run_b11 N sE sL sN n) l0 h17
theorem pX35_run_b11 {w : eW} {d : Nat} {dr : Nat} (hd : dr + 20 ≤ d + 1) (hdr : 12 ≤ dr) {N : Nat} {sE : Nat → Int32 → eH → Option (Unit × eH)} {sL : Nat → Int32 → Int64 → Int64 → eH → Option (Int32 × eH)} {sN : Nat → eH → Option (Int32 × eH)} (hsE : ∀ a t0 h q, sE a t0 h = some q → wm w dr YX35_expand [.ref a, .int t0] h (e_is (e_rn c_V q))) (hsL : ∀ a t0 t1 t2 h q, sL a t0 t1 t2 h = some q → wm w dr YX35_layBox [.ref a, .int t0, .long t1, .long t2] h (e_is (e_rn c_I q))) (hsN : ∀ a h q, sN a h = some q → wm w dr YX35_number [.ref a] h (e_is (e_rn c_I q))) : ∀ (n : Nat) l0 h q, fX35_run_b11 N sE sL sN n l0 h = some q → wp w (d + 1) YX35_run 11 [some (.ref l0), none] [] h (e_is (e_rn c_I q)) := by
  intro n
  induction n with
  | zero => intro l0 h q hf; simp [fX35_run_b11] at hf
  | succ n ih =>
    intro l0 h q hf
    rw [fX35_run_b11] at hf
    refine w_aload_n dX35_run_11 rfl rfl ?_
    obtain ⟨x1, b2, hf⟩ := Option.bind_eq_some_iff.mp hf
    refine GX35_321 b2 dX35_run_12 rfl ?_
    refine w_if_ne 62 dX35_run_15 (by decide) (fun c3 => ?_) (fun c3 => ?_)
    · replace hf := (if_pos (show ¬ x1 = 0 from c3)).symm.trans hf
      exact (pX35_run_b62 hd hdr hsE hsL hsN hf).to ⟨rfl, trivial⟩
    · replace hf := (if_neg (show ¬ (¬ x1 = 0) from (fun z => z c3))).symm.trans hf
      refine w_aload_n dX35_run_18 rfl rfl ?_
      obtain ⟨x4, b5, hf⟩ := Option.bind_eq_some_iff.mp hf
      refine GX35_356 b5 dX35_run_19 rfl ?_
      refine w_if_ne 62 dX35_run_22 (by decide) (fun c6 => ?_) (fun c6 => ?_)
      · replace hf := (if_pos (show ¬ x4 = 0 from c6)).symm.trans hf
        exact (pX35_run_b62 hd hdr hsE hsL hsN hf).to ⟨rfl, trivial⟩
      · replace hf := (if_neg (show ¬ (¬ x4 = 0) from (fun z => z c6))).symm.trans hf
        refine w_aload_n dX35_run_25 rfl rfl ?_
        obtain ⟨_, b7, hf⟩ := Option.bind_eq_some_iff.mp hf
        refine x_cnI hf (e_stV (Yc := YX35_getExpanded) (ci := 34) (av := []) (st := []) dX35_run_26 q5077 mX35_getExpanded rfl (k_ok_some b7).1 (k_ok_some b7).2) mX35_getExpanded.2.2.1 mX35_getExpanded.2.2.2.2.1 (Nat.le_of_ble_eq_true rfl) (Nat.le_of_ble_eq_true rfl) (fun q hq => pX35_getExpanded (by omega) hdr hsE hq) (fun q8 hf => ?_)
        refine w_istore_n dX35_run_29 rfl (by decide) (ls' := [some (.ref l0), some (.int q8.1)]) rfl ?_
        refine w_iload_n dX35_run_30 rfl rfl ?_
        refine w_iconst dX35_run_31 (v := -1) (by decide) ?_
        refine w_icmp_ne 43 dX35_run_32 (by decide) (fun c9 => ?_) (fun c9 => ?_)
        · replace hf := (if_pos (show ¬ q8.1 = (-1 : Int32) from c9)).symm.trans hf
          refine w_aload_n dX35_run_43 rfl rfl ?_
          obtain ⟨_, b10, hf⟩ := Option.bind_eq_some_iff.mp hf
          refine x_cnV hf (e_stV (Yc := YX35_tick) (ci := 34) (av := []) (st := []) dX35_run_44 q5146 mX35_tick rfl (k_ok_some b10).1 (k_ok_some b10).2) mX35_tick.2.2.1 mX35_tick.2.2.2.2.1 (Nat.le_of_ble_eq_true rfl) (Nat.le_of_ble_eq_true rfl) (fun q hq => pX35_tick (by omega) hq) (fun q11 hf => ?_)
          refine w_aload_n dX35_run_47 rfl rfl ?_
          obtain ⟨x12, b13, hf⟩ := Option.bind_eq_some_iff.mp hf
          refine GX35_321 b13 dX35_run_48 rfl ?_
          refine w_if_ne 59 dX35_run_51 (by decide) (fun c14 => ?_) (fun c14 => ?_)
          · replace hf := (if_pos (show ¬ x12 = 0 from c14)).symm.trans hf
            exact (pX35_run_b59 hd hdr hsE hsL hsN ih hf).to ⟨rfl, trivial⟩
          · replace hf := (if_neg (show ¬ (¬ x12 = 0) from (fun z => z c14))).symm.trans hf
            refine w_aload_n dX35_run_54 rfl rfl ?_
            refine w_iload_n dX35_run_55 rfl rfl ?_
            obtain ⟨_, b15, hf⟩ := Option.bind_eq_some_iff.mp hf
            refine x_cnV hf (e_stV (Yc := YX35_done) (ci := 34) (av := [.int q8.1]) (st := []) dX35_run_56 q5437 mX35_done rfl (k_ok_some b15).1 (k_ok_some b15).2) mX35_done.2.2.1 mX35_done.2.2.2.2.1 (Nat.le_of_ble_eq_true rfl) (Nat.le_of_ble_eq_true rfl) (fun q hq => pX35_done (by omega) hdr hsE hsL hsN hq) (fun q16 hf => ?_)
            exact (pX35_run_b59 hd hdr hsE hsL hsN ih hf).to ⟨rfl, trivial⟩
        · replace hf := (if_neg (show ¬ (¬ q8.1 = (-1 : Int32)) from (fun z => z c9))).symm.trans hf
          refine w_aload_n dX35_run_35 rfl rfl ?_
          refine w_iconst dX35_run_36 (v := 1) (by decide) ?_
          obtain ⟨h17, b18, hf⟩ := Option.bind_eq_some_iff.mp hf
          refine SX35_356 b18 dX35_run_37 rfl ?_
          refine w_goto 59 dX35_run_40 (by decide) ?_
          exact (pX35_run_b59 hd hdr hsE hsL hsN ih hf).to ⟨rfl, trivial⟩
def fX35_run (N : Nat) (sE : Nat → Int32 → eH → Option (Unit × eH)) (sL : Nat → Int32 → Int64 → Int64 → eH → Option (Int32 × eH)) (sN : Nat → eH → Option (Int32 × eH)) (this : Nat) (h : eH) : Option (Int32 × eH) :=
  (k_ok 34 h this).bind fun _ =>
  (fX35_clear N this h).bind fun q2 =>
  (g_A 34 q2.2 this 7).bind fun a3 =>
  (k_ok 37 q2.2 a3).bind fun _ =>
  (fX38_begin N a3 q2.2).bind fun q6 =>
  fX35_run_b11 N sE sL sN N this q6.2
theorem pX35_run {w : eW} {d : Nat} {dr : Nat} (hd : dr + 20 ≤ d) (hdr : 12 ≤ dr) {N : Nat} {sE : Nat → Int32 → eH → Option (Unit × eH)} {sL : Nat → Int32 → Int64 → Int64 → eH → Option (Int32 × eH)} {sN : Nat → eH → Option (Int32 × eH)} (hsE : ∀ a t0 h q, sE a t0 h = some q → wm w dr YX35_expand [.ref a, .int t0] h (e_is (e_rn c_V q))) (hsL : ∀ a t0 t1 t2 h q, sL a t0 t1 t2 h = some q → wm w dr YX35_layBox [.ref a, .int t0, .long t1, .long t2] h (e_is (e_rn c_I q))) (hsN : ∀ a h q, sN a h = some q → wm w dr YX35_number [.ref a] h (e_is (e_rn c_I q))) {this : Nat} {h : eH} {q} (hf : fX35_run N sE sL sN this h = some q) : wm w d YX35_run [.ref this] h (e_is (e_rn c_I q)) := by
  obtain ⟨d, rfl⟩ : ∃ e, d = e + 1 := ⟨d - 1, by omega⟩
  show wp w (d + 1) YX35_run 0 [some (.ref this), none] [] h _
  unfold fX35_run at hf
  refine w_aload_n dX35_run_0 rfl rfl ?_
  obtain ⟨_, b1, hf⟩ := Option.bind_eq_some_iff.mp hf
  refine x_cnV hf (e_stV (Yc := YX35_clear) (ci := 34) (av := []) (st := []) dX35_run_1 q4474 mX35_clear rfl (k_ok_some b1).1 (k_ok_some b1).2) mX35_clear.2.2.1 mX35_clear.2.2.2.2.1 (Nat.le_of_ble_eq_true rfl) (Nat.le_of_ble_eq_true rfl) (fun q hq => pX35_clear (by omega) hq) (fun q2 hf => ?_)
  refine w_aload_n dX35_run_4 rfl rfl ?_
  obtain ⟨a3, b4, hf⟩ := Option.bind_eq_some_iff.mp hf
  refine GX35_42 b4 dX35_run_5 rfl ?_
  obtain ⟨_, b5, hf⟩ := Option.bind_eq_some_iff.mp hf
  refine x_cnV hf (e_stV (Yc := YX38_begin) (ci := 37) (av := []) (st := []) dX35_run_8 q5059 mX38_begin rfl (k_ok_some b5).1 (k_ok_some b5).2) mX38_begin.2.2.1 mX38_begin.2.2.2.2.1 (Nat.le_of_ble_eq_true rfl) (Nat.le_of_ble_eq_true rfl) (fun q hq => pX38_begin (by omega) hq) (fun q6 hf => ?_)
  exact (pX35_run_b11 hd hdr hsE hsL hsN N _ _ _ hf).to ⟨rfl, trivial⟩
abbrev cX35_end : ByteArray := prog_37_method_6_code
def yX35_end : MethodName := ⟨RX35, "end", "(II)I"⟩
def YX35_end : eY := (yX35_end, cX35_end, 4, (Option.some FieldType.int), [])
theorem mX35_end : e_mv YX35_end RX35 2 := ⟨q4907, q4908, q4909, by decide, by decide +kernel, (e_sig (by decide +kernel))⟩
theorem dX35_end_0 : decode cX35_end 0 = .ok (.aload_n 0, 1) := dc_42 (by decide +kernel)
theorem dX35_end_1 : decode cX35_end 1 = .ok (.iload_n 1, 1) := dc_27 (by decide +kernel)
theorem dX35_end_2 : decode cX35_end 2 = .ok (.ifCond .lt 21, 3) := dc_155 (a := 0) (b := 21) (v := 21) (by decide +kernel)
theorem dX35_end_5 : decode cX35_end 5 = .ok (.iload_n 1, 1) := dc_27 (by decide +kernel)
theorem dX35_end_6 : decode cX35_end 6 = .ok (.bipush 18, 2) := dc_16 (a := 18) (v := 18) (by decide +kernel)
theorem dX35_end_8 : decode cX35_end 8 = .ok (.if_icmp .gt 15, 3) := dc_163 (a := 0) (b := 15) (v := 15) (by decide +kernel)
theorem dX35_end_11 : decode cX35_end 11 = .ok (.iload_n 2, 1) := dc_28 (by decide +kernel)
theorem dX35_end_12 : decode cX35_end 12 = .ok (.ifCond .lt 11, 3) := dc_155 (a := 0) (b := 11) (v := 11) (by decide +kernel)
theorem dX35_end_15 : decode cX35_end 15 = .ok (.iload_n 2, 1) := dc_28 (by decide +kernel)
theorem dX35_end_16 : decode cX35_end 16 = .ok (.aload_n 0, 1) := dc_42 (by decide +kernel)
theorem dX35_end_17 : decode cX35_end 17 = .ok (.getfield 255, 3) := dc_180 (a := 0) (b := 255) (n := 255) (by decide +kernel)
theorem dX35_end_20 : decode cX35_end 20 = .ok (.if_icmp .le 7, 3) := dc_164 (a := 0) (b := 7) (v := 7) (by decide +kernel)
theorem dX35_end_23 : decode cX35_end 23 = .ok (.iconst 1, 1) := dc_4 (by decide +kernel)
theorem dX35_end_24 : decode cX35_end 24 = .ok (.goto 4, 3) := dc_167 (a := 0) (b := 4) (v := 4) (by decide +kernel)
theorem dX35_end_27 : decode cX35_end 27 = .ok (.iconst 0, 1) := dc_3 (by decide +kernel)
theorem dX35_end_28 : decode cX35_end 28 = .ok (.putfield 252, 3) := dc_181 (a := 0) (b := 252) (n := 252) (by decide +kernel)
theorem dX35_end_31 : decode cX35_end 31 = .ok (.aload_n 0, 1) := dc_42 (by decide +kernel)
theorem dX35_end_32 : decode cX35_end 32 = .ok (.getfield 252, 3) := dc_180 (a := 0) (b := 252) (n := 252) (by decide +kernel)
theorem dX35_end_35 : decode cX35_end 35 = .ok (.ifCond .le 5, 3) := dc_158 (a := 0) (b := 5) (v := 5) (by decide +kernel)
theorem dX35_end_38 : decode cX35_end 38 = .ok (.iconst 0, 1) := dc_3 (by decide +kernel)
theorem dX35_end_39 : decode cX35_end 39 = .ok (.ireturn, 1) := dc_172 (by decide +kernel)
theorem dX35_end_40 : decode cX35_end 40 = .ok (.aload_n 0, 1) := dc_42 (by decide +kernel)
theorem dX35_end_41 : decode cX35_end 41 = .ok (.iconst 0, 1) := dc_3 (by decide +kernel)
theorem dX35_end_42 : decode cX35_end 42 = .ok (.putfield 255, 3) := dc_181 (a := 0) (b := 255) (n := 255) (by decide +kernel)
theorem dX35_end_45 : decode cX35_end 45 = .ok (.iload_n 1, 1) := dc_27 (by decide +kernel)
theorem dX35_end_46 : decode cX35_end 46 = .ok (.bipush 16, 2) := dc_16 (a := 16) (v := 16) (by decide +kernel)
theorem dX35_end_48 : decode cX35_end 48 = .ok (.if_icmp .ge 63, 3) := dc_162 (a := 0) (b := 63) (v := 63) (by decide +kernel)
theorem dX35_end_51 : decode cX35_end 51 = .ok (.aload_n 0, 1) := dc_42 (by decide +kernel)
theorem dX35_end_52 : decode cX35_end 52 = .ok (.getfield 8, 3) := dc_180 (a := 0) (b := 8) (n := 8) (by decide +kernel)
theorem dX35_end_55 : decode cX35_end 55 = .ok (.iload_n 2, 1) := dc_28 (by decide +kernel)
theorem dX35_end_56 : decode cX35_end 56 = .ok (.invokestatic 263, 3) := dc_184 (a := 1) (b := 7) (n := 263) (by decide +kernel)
theorem dX35_end_59 : decode cX35_end 59 = .ok (.istore_n 3, 1) := dc_62 (by decide +kernel)
theorem dX35_end_60 : decode cX35_end 60 = .ok (.iload_n 3, 1) := dc_29 (by decide +kernel)
theorem dX35_end_61 : decode cX35_end 61 = .ok (.ifCond .ne 48, 3) := dc_154 (a := 0) (b := 48) (v := 48) (by decide +kernel)
theorem dX35_end_64 : decode cX35_end 64 = .ok (.aload_n 0, 1) := dc_42 (by decide +kernel)
theorem dX35_end_65 : decode cX35_end 65 = .ok (.getfield 21, 3) := dc_180 (a := 0) (b := 21) (n := 21) (by decide +kernel)
theorem dX35_end_68 : decode cX35_end 68 = .ok (.iload_n 1, 1) := dc_27 (by decide +kernel)
theorem dX35_end_69 : decode cX35_end 69 = .ok (.aload_n 0, 1) := dc_42 (by decide +kernel)
theorem dX35_end_70 : decode cX35_end 70 = .ok (.getfield 21, 3) := dc_180 (a := 0) (b := 21) (n := 21) (by decide +kernel)
theorem dX35_end_73 : decode cX35_end 73 = .ok (.iload_n 1, 1) := dc_27 (by decide +kernel)
theorem dX35_end_74 : decode cX35_end 74 = .ok (.aaload, 1) := dc_50 (by decide +kernel)
theorem dX35_end_75 : decode cX35_end 75 = .ok (.ifnonnull 13, 3) := dc_199 (a := 0) (b := 13) (v := 13) (by decide +kernel)
theorem dX35_end_78 : decode cX35_end 78 = .ok (.new 19, 3) := dc_187 (a := 0) (b := 19) (n := 19) (by decide +kernel)
theorem dX35_end_81 : decode cX35_end 81 = .ok (.dup, 1) := dc_89 (by decide +kernel)
theorem dX35_end_82 : decode cX35_end 82 = .ok (.invokespecial 267, 3) := dc_183 (a := 1) (b := 11) (n := 267) (by decide +kernel)
theorem dX35_end_85 : decode cX35_end 85 = .ok (.goto 9, 3) := dc_167 (a := 0) (b := 9) (v := 9) (by decide +kernel)
theorem dX35_end_88 : decode cX35_end 88 = .ok (.aload_n 0, 1) := dc_42 (by decide +kernel)
theorem dX35_end_89 : decode cX35_end 89 = .ok (.getfield 21, 3) := dc_180 (a := 0) (b := 21) (n := 21) (by decide +kernel)
theorem dX35_end_92 : decode cX35_end 92 = .ok (.iload_n 1, 1) := dc_27 (by decide +kernel)
theorem dX35_end_93 : decode cX35_end 93 = .ok (.aaload, 1) := dc_50 (by decide +kernel)
theorem dX35_end_94 : decode cX35_end 94 = .ok (.aastore, 1) := dc_83 (by decide +kernel)
theorem dX35_end_95 : decode cX35_end 95 = .ok (.aload_n 0, 1) := dc_42 (by decide +kernel)
theorem dX35_end_96 : decode cX35_end 96 = .ok (.getfield 21, 3) := dc_180 (a := 0) (b := 21) (n := 21) (by decide +kernel)
theorem dX35_end_99 : decode cX35_end 99 = .ok (.iload_n 1, 1) := dc_27 (by decide +kernel)
theorem dX35_end_100 : decode cX35_end 100 = .ok (.aaload, 1) := dc_50 (by decide +kernel)
theorem dX35_end_101 : decode cX35_end 101 = .ok (.aload_n 0, 1) := dc_42 (by decide +kernel)
theorem dX35_end_102 : decode cX35_end 102 = .ok (.getfield 8, 3) := dc_180 (a := 0) (b := 8) (n := 8) (by decide +kernel)
theorem dX35_end_105 : decode cX35_end 105 = .ok (.iload_n 2, 1) := dc_28 (by decide +kernel)
theorem dX35_end_106 : decode cX35_end 106 = .ok (.invokevirtual 268, 3) := dc_182 (a := 1) (b := 12) (n := 268) (by decide +kernel)
theorem dX35_end_109 : decode cX35_end 109 = .ok (.iload_n 3, 1) := dc_29 (by decide +kernel)
theorem dX35_end_110 : decode cX35_end 110 = .ok (.ireturn, 1) := dc_172 (by decide +kernel)
theorem dX35_end_111 : decode cX35_end 111 = .ok (.iload_n 1, 1) := dc_27 (by decide +kernel)
theorem dX35_end_112 : decode cX35_end 112 = .ok (.bipush 18, 2) := dc_16 (a := 18) (v := 18) (by decide +kernel)
theorem dX35_end_114 : decode cX35_end 114 = .ok (.if_icmp .ge 67, 3) := dc_162 (a := 0) (b := 67) (v := 67) (by decide +kernel)
theorem dX35_end_117 : decode cX35_end 117 = .ok (.iconst 0, 1) := dc_3 (by decide +kernel)
theorem dX35_end_118 : decode cX35_end 118 = .ok (.istore_n 3, 1) := dc_62 (by decide +kernel)
theorem dX35_end_119 : decode cX35_end 119 = .ok (.iload_n 3, 1) := dc_29 (by decide +kernel)
theorem dX35_end_120 : decode cX35_end 120 = .ok (.iload_n 2, 1) := dc_28 (by decide +kernel)
theorem dX35_end_121 : decode cX35_end 121 = .ok (.if_icmp .ge 28, 3) := dc_162 (a := 0) (b := 28) (v := 28) (by decide +kernel)
theorem dX35_end_124 : decode cX35_end 124 = .ok (.aload_n 0, 1) := dc_42 (by decide +kernel)
theorem dX35_end_125 : decode cX35_end 125 = .ok (.getfield 28, 3) := dc_180 (a := 0) (b := 28) (n := 28) (by decide +kernel)
theorem dX35_end_128 : decode cX35_end 128 = .ok (.getfield 272, 3) := dc_180 (a := 1) (b := 16) (n := 272) (by decide +kernel)
theorem dX35_end_131 : decode cX35_end 131 = .ok (.iload_n 3, 1) := dc_29 (by decide +kernel)
theorem dX35_end_132 : decode cX35_end 132 = .ok (.aload_n 0, 1) := dc_42 (by decide +kernel)
theorem dX35_end_133 : decode cX35_end 133 = .ok (.getfield 8, 3) := dc_180 (a := 0) (b := 8) (n := 8) (by decide +kernel)
theorem dX35_end_136 : decode cX35_end 136 = .ok (.iload_n 3, 1) := dc_29 (by decide +kernel)
theorem dX35_end_137 : decode cX35_end 137 = .ok (.baload, 1) := dc_51 (by decide +kernel)
theorem dX35_end_138 : decode cX35_end 138 = .ok (.sipush 255, 3) := dc_17 (a := 0) (b := 255) (v := 255) (by decide +kernel)
theorem dX35_end_141 : decode cX35_end 141 = .ok (.iand, 1) := dc_126 (by decide +kernel)
theorem dX35_end_142 : decode cX35_end 142 = .ok (.iastore, 1) := dc_79 (by decide +kernel)
theorem dX35_end_143 : decode cX35_end 143 = .ok (.iinc 3 1, 3) := dc_132 (a := 3) (b := 1) (v := 1) (by decide +kernel)
theorem dX35_end_146 : decode cX35_end 146 = .ok (.goto (-27), 3) := dc_167 (a := 255) (b := 229) (v := -27) (by decide +kernel)
theorem dX35_end_149 : decode cX35_end 149 = .ok (.aload_n 0, 1) := dc_42 (by decide +kernel)
theorem dX35_end_150 : decode cX35_end 150 = .ok (.getfield 28, 3) := dc_180 (a := 0) (b := 28) (n := 28) (by decide +kernel)
theorem dX35_end_153 : decode cX35_end 153 = .ok (.iload_n 2, 1) := dc_28 (by decide +kernel)
theorem dX35_end_154 : decode cX35_end 154 = .ok (.putfield 275, 3) := dc_181 (a := 1) (b := 19) (n := 275) (by decide +kernel)
theorem dX35_end_157 : decode cX35_end 157 = .ok (.iload_n 1, 1) := dc_27 (by decide +kernel)
theorem dX35_end_158 : decode cX35_end 158 = .ok (.bipush 16, 2) := dc_16 (a := 16) (v := 16) (by decide +kernel)
theorem dX35_end_160 : decode cX35_end 160 = .ok (.if_icmp .ne 13, 3) := dc_160 (a := 0) (b := 13) (v := 13) (by decide +kernel)
theorem dX35_end_163 : decode cX35_end 163 = .ok (.aload_n 0, 1) := dc_42 (by decide +kernel)
theorem dX35_end_164 : decode cX35_end 164 = .ok (.getfield 28, 3) := dc_180 (a := 0) (b := 28) (n := 28) (by decide +kernel)
theorem dX35_end_167 : decode cX35_end 167 = .ok (.invokevirtual 278, 3) := dc_182 (a := 1) (b := 22) (n := 278) (by decide +kernel)
theorem dX35_end_170 : decode cX35_end 170 = .ok (.goto 10, 3) := dc_167 (a := 0) (b := 10) (v := 10) (by decide +kernel)
theorem dX35_end_173 : decode cX35_end 173 = .ok (.aload_n 0, 1) := dc_42 (by decide +kernel)
theorem dX35_end_174 : decode cX35_end 174 = .ok (.getfield 28, 3) := dc_180 (a := 0) (b := 28) (n := 28) (by decide +kernel)
theorem dX35_end_177 : decode cX35_end 177 = .ok (.invokevirtual 282, 3) := dc_182 (a := 1) (b := 26) (n := 282) (by decide +kernel)
theorem dX35_end_180 : decode cX35_end 180 = .ok (.ireturn, 1) := dc_172 (by decide +kernel)
theorem dX35_end_181 : decode cX35_end 181 = .ok (.aload_n 0, 1) := dc_42 (by decide +kernel)
theorem dX35_end_182 : decode cX35_end 182 = .ok (.iload_n 2, 1) := dc_28 (by decide +kernel)
theorem dX35_end_183 : decode cX35_end 183 = .ok (.putfield 285, 3) := dc_181 (a := 1) (b := 29) (n := 285) (by decide +kernel)
theorem dX35_end_186 : decode cX35_end 186 = .ok (.aload_n 0, 1) := dc_42 (by decide +kernel)
theorem dX35_end_187 : decode cX35_end 187 = .ok (.invokevirtual 288, 3) := dc_182 (a := 1) (b := 32) (n := 288) (by decide +kernel)
theorem dX35_end_190 : decode cX35_end 190 = .ok (.ireturn, 1) := dc_172 (by decide +kernel)
theorem GX35_255 {w : eW} {d : Nat} {Y : eY} {pc : Nat} {ls : eL} {st : List Value} {h : eH} {Q : eO → eH → Prop} {a : Nat} {x : Int32} (hf : g_I 34 h a 1 = some x) (hd : decode Y.2.1 pc = .ok (.getfield 255, 3)) (hY : Y.1.cls = RX35) (kk : wp w d Y (pc + 3) ls (.int x :: st) h Q) : wp w d Y pc ls (.ref a :: st) h Q := x_gI (ci := 34) (k := 1) hf hd rfl (by decide) (by rw [hY]; exact q4503) kk
theorem GX35_272 {w : eW} {d : Nat} {Y : eY} {pc : Nat} {ls : eL} {st : List Value} {h : eH} {Q : eO → eH → Prop} {a : Nat} {x : Nat} (hf : g_A 35 h a 4 = some x) (hd : decode Y.2.1 pc = .ok (.getfield 272, 3)) (hY : Y.1.cls = RX35) (kk : wp w d Y (pc + 3) ls (.ref x :: st) h Q) : wp w d Y pc ls (.ref a :: st) h Q := x_gAN (ci := 35) (k := 4) hf hd rfl (by decide) (by rw [hY]; exact q4137) kk
theorem SX35_255 {w : eW} {d : Nat} {Y : eY} {pc : Nat} {ls : eL} {st : List Value} {h : eH} {Q : eO → eH → Prop} {a : Nat} {h' : eH} {x : Int32} (hf : p_V 34 h a 1 (.int x) = some h') (hd : decode Y.2.1 pc = .ok (.putfield 255, 3)) (hY : Y.1.cls = RX35) (kk : wp w d Y (pc + 3) ls st h' Q) : wp w d Y pc ls (.int x :: .ref a :: st) h Q := x_pI (ci := 34) (k := 1) hf hd rfl (by decide) (by rw [hY]; exact q4503) rfl rfl kk
theorem SX35_275 {w : eW} {d : Nat} {Y : eY} {pc : Nat} {ls : eL} {st : List Value} {h : eH} {Q : eO → eH → Prop} {a : Nat} {h' : eH} {x : Int32} (hf : p_V 35 h a 3 (.int x) = some h') (hd : decode Y.2.1 pc = .ok (.putfield 275, 3)) (hY : Y.1.cls = RX35) (kk : wp w d Y (pc + 3) ls st h' Q) : wp w d Y pc ls (.int x :: .ref a :: st) h Q := x_pIN (ci := 35) (k := 3) hf hd rfl (by decide) (by rw [hY]; exact q4135) rfl rfl kk
theorem SX35_285 {w : eW} {d : Nat} {Y : eY} {pc : Nat} {ls : eL} {st : List Value} {h : eH} {Q : eO → eH → Prop} {a : Nat} {h' : eH} {x : Int32} (hf : p_V 34 h a 8 (.int x) = some h') (hd : decode Y.2.1 pc = .ok (.putfield 285, 3)) (hY : Y.1.cls = RX35) (kk : wp w d Y (pc + 3) ls st h' Q) : wp w d Y pc ls (.int x :: .ref a :: st) h Q := x_pI (ci := 34) (k := 8) hf hd rfl (by decide) (by rw [hY]; exact q4510) rfl rfl kk
def fX35_end_b109 (N : Nat) (sE : Nat → Int32 → eH → Option (Unit × eH)) (sL : Nat → Int32 → Int64 → Int64 → eH → Option (Int32 × eH)) (sN : Nat → eH → Option (Int32 × eH)) (l3 : Int32) (h : eH) : Option (Int32 × eH) :=
  some (l3, h)
theorem pX35_end_b109 {w : eW} {d : Nat} {dr : Nat} (hd : dr + 21 ≤ d + 1) (hdr : 12 ≤ dr) {N : Nat} {sE : Nat → Int32 → eH → Option (Unit × eH)} {sL : Nat → Int32 → Int64 → Int64 → eH → Option (Int32 × eH)} {sN : Nat → eH → Option (Int32 × eH)} (hsE : ∀ a t0 h q, sE a t0 h = some q → wm w dr YX35_expand [.ref a, .int t0] h (e_is (e_rn c_V q))) (hsL : ∀ a t0 t1 t2 h q, sL a t0 t1 t2 h = some q → wm w dr YX35_layBox [.ref a, .int t0, .long t1, .long t2] h (e_is (e_rn c_I q))) (hsN : ∀ a h q, sN a h = some q → wm w dr YX35_number [.ref a] h (e_is (e_rn c_I q))) {l3 : Int32} {h : eH} {q} (hf : fX35_end_b109 N sE sL sN l3 h = some q) : wp w (d + 1) YX35_end 109 [none, none, none, some (.int l3)] [] h (e_is (e_rn c_I q)) := by
  unfold fX35_end_b109 at hf
  refine w_iload_n dX35_end_109 rfl rfl ?_
  cases hf
  exact w_iret dX35_end_110 rfl rfl rfl
def fX35_end_b94 (N : Nat) (sE : Nat → Int32 → eH → Option (Unit × eH)) (sL : Nat → Int32 → Int64 → Int64 → eH → Option (Int32 × eH)) (sN : Nat → eH → Option (Int32 × eH)) (l0 : Nat) (l1 : Int32) (l2 : Int32) (l3 : Int32) (s0 : Nat) (s1 : Int32) (s2 : Nat) (h : eH) : Option (Int32 × eH) :=
  (q_A 107 42 h s0 s1 s2).bind fun h1 =>
  (g_A 34 h1 l0 4).bind fun a3 =>
  (r_A 107 h1 a3 l1).bind fun a5 =>
  (g_A 34 h1 l0 2).bind fun a7 =>
  (k_ok 42 h1 a5).bind fun _ =>
  (fX40_take N a5 a7 l2 h1).bind fun q10 =>
  fX35_end_b109 N sE sL sN l3 q10.2
theorem pX35_end_b94 {w : eW} {d : Nat} {dr : Nat} (hd : dr + 21 ≤ d + 1) (hdr : 12 ≤ dr) {N : Nat} {sE : Nat → Int32 → eH → Option (Unit × eH)} {sL : Nat → Int32 → Int64 → Int64 → eH → Option (Int32 × eH)} {sN : Nat → eH → Option (Int32 × eH)} (hsE : ∀ a t0 h q, sE a t0 h = some q → wm w dr YX35_expand [.ref a, .int t0] h (e_is (e_rn c_V q))) (hsL : ∀ a t0 t1 t2 h q, sL a t0 t1 t2 h = some q → wm w dr YX35_layBox [.ref a, .int t0, .long t1, .long t2] h (e_is (e_rn c_I q))) (hsN : ∀ a h q, sN a h = some q → wm w dr YX35_number [.ref a] h (e_is (e_rn c_I q))) {l0 : Nat} {l1 : Int32} {l2 : Int32} {l3 : Int32} {s0 : Nat} {s1 : Int32} {s2 : Nat} {h : eH} {q} (hf : fX35_end_b94 N sE sL sN l0 l1 l2 l3 s0 s1 s2 h = some q) : wp w (d + 1) YX35_end 94 [some (.ref l0), some (.int l1), some (.int l2), some (.int l3)] [.ref s2, .int s1, .ref s0] h (e_is (e_rn c_I q)) := by
  unfold fX35_end_b94 at hf
  obtain ⟨h1, b2, hf⟩ := Option.bind_eq_some_iff.mp hf
  refine x_qA (c := 107) (cb := 42) (by decide) rfl rfl b2 dX35_end_94 ?_
  refine w_aload_n dX35_end_95 rfl rfl ?_
  obtain ⟨a3, b4, hf⟩ := Option.bind_eq_some_iff.mp hf
  refine GX35_21 b4 dX35_end_96 rfl ?_
  refine w_iload_n dX35_end_99 rfl rfl ?_
  obtain ⟨a5, b6, hf⟩ := Option.bind_eq_some_iff.mp hf
  refine x_rA (c := 107) (by decide) b6 dX35_end_100 ?_
  refine w_aload_n dX35_end_101 rfl rfl ?_
  obtain ⟨a7, b8, hf⟩ := Option.bind_eq_some_iff.mp hf
  refine GX35_8 b8 dX35_end_102 rfl ?_
  refine w_iload_n dX35_end_105 rfl rfl ?_
  obtain ⟨_, b9, hf⟩ := Option.bind_eq_some_iff.mp hf
  refine x_cnV hf (e_stV (Yc := YX40_take) (ci := 42) (av := [.ref a7, .int l2]) (st := []) dX35_end_106 q4992 mX40_take rfl (k_ok_some b9).1 (k_ok_some b9).2) mX40_take.2.2.1 mX40_take.2.2.2.2.1 (Nat.le_of_ble_eq_true rfl) (Nat.le_of_ble_eq_true rfl) (fun q hq => pX40_take (by omega) hq) (fun q10 hf => ?_)
  exact (pX35_end_b109 hd hdr hsE hsL hsN hf).to ⟨rfl, trivial⟩
def fX35_end_b180 (N : Nat) (sE : Nat → Int32 → eH → Option (Unit × eH)) (sL : Nat → Int32 → Int64 → Int64 → eH → Option (Int32 × eH)) (sN : Nat → eH → Option (Int32 × eH)) (s0 : Int32) (h : eH) : Option (Int32 × eH) :=
  some (s0, h)
theorem pX35_end_b180 {w : eW} {d : Nat} {dr : Nat} (hd : dr + 21 ≤ d + 1) (hdr : 12 ≤ dr) {N : Nat} {sE : Nat → Int32 → eH → Option (Unit × eH)} {sL : Nat → Int32 → Int64 → Int64 → eH → Option (Int32 × eH)} {sN : Nat → eH → Option (Int32 × eH)} (hsE : ∀ a t0 h q, sE a t0 h = some q → wm w dr YX35_expand [.ref a, .int t0] h (e_is (e_rn c_V q))) (hsL : ∀ a t0 t1 t2 h q, sL a t0 t1 t2 h = some q → wm w dr YX35_layBox [.ref a, .int t0, .long t1, .long t2] h (e_is (e_rn c_I q))) (hsN : ∀ a h q, sN a h = some q → wm w dr YX35_number [.ref a] h (e_is (e_rn c_I q))) {s0 : Int32} {h : eH} {q} (hf : fX35_end_b180 N sE sL sN s0 h = some q) : wp w (d + 1) YX35_end 180 [none, none, none, none] [.int s0] h (e_is (e_rn c_I q)) := by
  unfold fX35_end_b180 at hf
  cases hf
  exact w_iret dX35_end_180 rfl rfl rfl
def fX35_end_b119 (N : Nat) (sE : Nat → Int32 → eH → Option (Unit × eH)) (sL : Nat → Int32 → Int64 → Int64 → eH → Option (Int32 × eH)) (sN : Nat → eH → Option (Int32 × eH)) : Nat → Nat → Int32 → Int32 → Int32 → eH → Option (Int32 × eH)
  | 0, _, _, _, _, _ => none
  | n + 1, l0, l1, l2, l3, h =>
    if l2 ≤ l3 then
      (g_A 34 h l0 5).bind fun a2 =>
      (p_V 35 h a2 3 (.int l2)).bind fun h4 =>
      if ¬ l1 = (16 : Int32) then
        (g_A 34 h4 l0 5).bind fun a7 =>
        (k_ok 35 h4 a7).bind fun _ =>
        (fX36_words N a7 h4).bind fun q10 =>
        fX35_end_b180 N sE sL sN q10.1 q10.2
      else
        (g_A 34 h4 l0 5).bind fun a11 =>
        (k_ok 35 h4 a11).bind fun _ =>
        (fX36_patterns N a11 h4).bind fun q14 =>
        fX35_end_b180 N sE sL sN q14.1 q14.2
    else
      (g_A 34 h l0 5).bind fun a15 =>
      (g_A 35 h a15 4).bind fun a17 =>
      (g_A 34 h l0 2).bind fun a19 =>
      (r_I 102 h a19 l3).bind fun x21 =>
      (q_V 100 h a17 l3 (.int (x21 &&& (255 : Int32)))).bind fun h23 =>
      fX35_end_b119 N sE sL sN n l0 l1 l2 (l3 + (1 : Int32)) h23
theorem pX35_end_b119 {w : eW} {d : Nat} {dr : Nat} (hd : dr + 21 ≤ d + 1) (hdr : 12 ≤ dr) {N : Nat} {sE : Nat → Int32 → eH → Option (Unit × eH)} {sL : Nat → Int32 → Int64 → Int64 → eH → Option (Int32 × eH)} {sN : Nat → eH → Option (Int32 × eH)} (hsE : ∀ a t0 h q, sE a t0 h = some q → wm w dr YX35_expand [.ref a, .int t0] h (e_is (e_rn c_V q))) (hsL : ∀ a t0 t1 t2 h q, sL a t0 t1 t2 h = some q → wm w dr YX35_layBox [.ref a, .int t0, .long t1, .long t2] h (e_is (e_rn c_I q))) (hsN : ∀ a h q, sN a h = some q → wm w dr YX35_number [.ref a] h (e_is (e_rn c_I q))) : ∀ (n : Nat) l0 l1 l2 l3 h q, fX35_end_b119 N sE sL sN n l0 l1 l2 l3 h = some q → wp w (d + 1) YX35_end 119 [some (.ref l0), some (.int l1), some (.int l2), some (.int l3)] [] h (e_is (e_rn c_I q)) := by
  intro n
  induction n with
  | zero => intro l0 l1 l2 l3 h q hf; simp [fX35_end_b119] at hf
  | succ n ih =>
    intro l0 l1 l2 l3 h q hf
    rw [fX35_end_b119] at hf
    refine w_iload_n dX35_end_119 rfl rfl ?_
    refine w_iload_n dX35_end_120 rfl rfl ?_
    refine w_icmp_ge 149 dX35_end_121 (by decide) (fun c1 => ?_) (fun c1 => ?_)
    · replace hf := (if_pos (show l2 ≤ l3 from c1)).symm.trans hf
      refine w_aload_n dX35_end_149 rfl rfl ?_
      obtain ⟨a2, b3, hf⟩ := Option.bind_eq_some_iff.mp hf
      refine GX35_28 b3 dX35_end_150 rfl ?_
      refine w_iload_n dX35_end_153 rfl rfl ?_
      obtain ⟨h4, b5, hf⟩ := Option.bind_eq_some_iff.mp hf
      refine SX35_275 b5 dX35_end_154 rfl ?_
      refine w_iload_n dX35_end_157 rfl rfl ?_
      refine w_bipush dX35_end_158 (v := 16) (by decide) ?_
      refine w_icmp_ne 173 dX35_end_160 (by decide) (fun c6 => ?_) (fun c6 => ?_)
      · replace hf := (if_pos (show ¬ l1 = (16 : Int32) from c6)).symm.trans hf
        refine w_aload_n dX35_end_173 rfl rfl ?_
        obtain ⟨a7, b8, hf⟩ := Option.bind_eq_some_iff.mp hf
        refine GX35_28 b8 dX35_end_174 rfl ?_
        obtain ⟨_, b9, hf⟩ := Option.bind_eq_some_iff.mp hf
        refine x_cnI hf (e_stV (Yc := YX36_words) (ci := 35) (av := []) (st := []) dX35_end_177 q5039 mX36_words rfl (k_ok_some b9).1 (k_ok_some b9).2) mX36_words.2.2.1 mX36_words.2.2.2.2.1 (Nat.le_of_ble_eq_true rfl) (Nat.le_of_ble_eq_true rfl) (fun q hq => pX36_words (by omega) hq) (fun q10 hf => ?_)
        exact (pX35_end_b180 hd hdr hsE hsL hsN hf).to trivial
      · replace hf := (if_neg (show ¬ (¬ l1 = (16 : Int32)) from (fun z => z c6))).symm.trans hf
        refine w_aload_n dX35_end_163 rfl rfl ?_
        obtain ⟨a11, b12, hf⟩ := Option.bind_eq_some_iff.mp hf
        refine GX35_28 b12 dX35_end_164 rfl ?_
        obtain ⟨_, b13, hf⟩ := Option.bind_eq_some_iff.mp hf
        refine x_cnI hf (e_stV (Yc := YX36_patterns) (ci := 35) (av := []) (st := []) dX35_end_167 q4996 mX36_patterns rfl (k_ok_some b13).1 (k_ok_some b13).2) mX36_patterns.2.2.1 mX36_patterns.2.2.2.2.1 (Nat.le_of_ble_eq_true rfl) (Nat.le_of_ble_eq_true rfl) (fun q hq => pX36_patterns (by omega) hq) (fun q14 hf => ?_)
        refine w_goto 180 dX35_end_170 (by decide) ?_
        exact (pX35_end_b180 hd hdr hsE hsL hsN hf).to trivial
    · replace hf := (if_neg (show ¬ (l2 ≤ l3) from c1)).symm.trans hf
      refine w_aload_n dX35_end_124 rfl rfl ?_
      obtain ⟨a15, b16, hf⟩ := Option.bind_eq_some_iff.mp hf
      refine GX35_28 b16 dX35_end_125 rfl ?_
      obtain ⟨a17, b18, hf⟩ := Option.bind_eq_some_iff.mp hf
      refine GX35_272 b18 dX35_end_128 rfl ?_
      refine w_iload_n dX35_end_131 rfl rfl ?_
      refine w_aload_n dX35_end_132 rfl rfl ?_
      obtain ⟨a19, b20, hf⟩ := Option.bind_eq_some_iff.mp hf
      refine GX35_8 b20 dX35_end_133 rfl ?_
      refine w_iload_n dX35_end_136 rfl rfl ?_
      obtain ⟨x21, b22, hf⟩ := Option.bind_eq_some_iff.mp hf
      refine x_rB b22 dX35_end_137 ?_
      refine w_sipush dX35_end_138 (v := 255) (by decide) ?_
      refine w_iand dX35_end_141 ?_
      obtain ⟨h23, b24, hf⟩ := Option.bind_eq_some_iff.mp hf
      refine x_qI b24 dX35_end_142 ?_
      refine w_iinc dX35_end_143 (v := (l3 + (1 : Int32))) rfl rfl (by decide) (ls' := [some (.ref l0), some (.int l1), some (.int l2), some (.int (l3 + (1 : Int32)))]) rfl ?_
      refine w_goto 119 dX35_end_146 (by decide) ?_
      exact (ih _ _ _ _ _ _ hf).to ⟨rfl, rfl, rfl, rfl, trivial⟩
def fX35_end_b28 (N : Nat) (sE : Nat → Int32 → eH → Option (Unit × eH)) (sL : Nat → Int32 → Int64 → Int64 → eH → Option (Int32 × eH)) (sN : Nat → eH → Option (Int32 × eH)) (l0 : Nat) (l1 : Int32) (l2 : Int32) (s0 : Nat) (s1 : Int32) (h : eH) : Option (Int32 × eH) :=
  (p_V 34 h s0 0 (.int s1)).bind fun h1 =>
  (g_I 34 h1 l0 0).bind fun x3 =>
  if x3 ≤ 0 then
    (p_V 34 h1 l0 1 (.int (0 : Int32))).bind fun h6 =>
    if (16 : Int32) ≤ l1 then
      if (18 : Int32) ≤ l1 then
        (p_V 34 h6 l0 8 (.int l2)).bind fun h10 =>
        (k_ok 34 h10 l0).bind fun _ =>
        (fX35_run N sE sL sN l0 h10).bind fun q13 =>
        some (q13.1, q13.2)
      else
        fX35_end_b119 N sE sL sN N l0 l1 l2 (0 : Int32) h6
    else
      (g_A 34 h6 l0 2).bind fun a14 =>
      (fX40_fault N a14 l2 h6).bind fun q16 =>
      if ¬ q16.1 = 0 then
        fX35_end_b109 N sE sL sN q16.1 q16.2
      else
        (g_A 34 q16.2 l0 4).bind fun a18 =>
        (g_A 34 q16.2 l0 4).bind fun a20 =>
        (r_O 107 q16.2 a20 l1).bind fun a22 =>
        match a22 with
        | none =>
          (n_obj 42 325 4 tyX40 q16.2).bind fun q25 =>
          (fX40_init q25.1 q25.2).bind fun q27 =>
          fX35_end_b94 N sE sL sN l0 l1 l2 q16.1 a18 l1 q25.1 q27.2
        | some a24 =>
          (g_A 34 q16.2 l0 4).bind fun a28 =>
          (r_A 107 q16.2 a28 l1).bind fun a30 =>
          fX35_end_b94 N sE sL sN l0 l1 l2 q16.1 a18 l1 a30 q16.2
  else
    some ((0 : Int32), h1)
theorem pX35_end_b28 {w : eW} {d : Nat} {dr : Nat} (hd : dr + 21 ≤ d + 1) (hdr : 12 ≤ dr) {N : Nat} {sE : Nat → Int32 → eH → Option (Unit × eH)} {sL : Nat → Int32 → Int64 → Int64 → eH → Option (Int32 × eH)} {sN : Nat → eH → Option (Int32 × eH)} (hsE : ∀ a t0 h q, sE a t0 h = some q → wm w dr YX35_expand [.ref a, .int t0] h (e_is (e_rn c_V q))) (hsL : ∀ a t0 t1 t2 h q, sL a t0 t1 t2 h = some q → wm w dr YX35_layBox [.ref a, .int t0, .long t1, .long t2] h (e_is (e_rn c_I q))) (hsN : ∀ a h q, sN a h = some q → wm w dr YX35_number [.ref a] h (e_is (e_rn c_I q))) {l0 : Nat} {l1 : Int32} {l2 : Int32} {s0 : Nat} {s1 : Int32} {h : eH} {q} (hf : fX35_end_b28 N sE sL sN l0 l1 l2 s0 s1 h = some q) : wp w (d + 1) YX35_end 28 [some (.ref l0), some (.int l1), some (.int l2), none] [.int s1, .ref s0] h (e_is (e_rn c_I q)) := by
  unfold fX35_end_b28 at hf
  obtain ⟨h1, b2, hf⟩ := Option.bind_eq_some_iff.mp hf
  refine SX35_252 b2 dX35_end_28 rfl ?_
  refine w_aload_n dX35_end_31 rfl rfl ?_
  obtain ⟨x3, b4, hf⟩ := Option.bind_eq_some_iff.mp hf
  refine GX35_252 b4 dX35_end_32 rfl ?_
  refine w_if_le 40 dX35_end_35 (by decide) (fun c5 => ?_) (fun c5 => ?_)
  · replace hf := (if_pos (show x3 ≤ 0 from c5)).symm.trans hf
    refine w_aload_n dX35_end_40 rfl rfl ?_
    refine w_iconst dX35_end_41 (v := 0) (by decide) ?_
    obtain ⟨h6, b7, hf⟩ := Option.bind_eq_some_iff.mp hf
    refine SX35_255 b7 dX35_end_42 rfl ?_
    refine w_iload_n dX35_end_45 rfl rfl ?_
    refine w_bipush dX35_end_46 (v := 16) (by decide) ?_
    refine w_icmp_ge 111 dX35_end_48 (by decide) (fun c8 => ?_) (fun c8 => ?_)
    · replace hf := (if_pos (show (16 : Int32) ≤ l1 from c8)).symm.trans hf
      refine w_iload_n dX35_end_111 rfl rfl ?_
      refine w_bipush dX35_end_112 (v := 18) (by decide) ?_
      refine w_icmp_ge 181 dX35_end_114 (by decide) (fun c9 => ?_) (fun c9 => ?_)
      · replace hf := (if_pos (show (18 : Int32) ≤ l1 from c9)).symm.trans hf
        refine w_aload_n dX35_end_181 rfl rfl ?_
        refine w_iload_n dX35_end_182 rfl rfl ?_
        obtain ⟨h10, b11, hf⟩ := Option.bind_eq_some_iff.mp hf
        refine SX35_285 b11 dX35_end_183 rfl ?_
        refine w_aload_n dX35_end_186 rfl rfl ?_
        obtain ⟨_, b12, hf⟩ := Option.bind_eq_some_iff.mp hf
        refine x_cnI hf (e_stV (Yc := YX35_run) (ci := 34) (av := []) (st := []) dX35_end_187 q5055 mX35_run rfl (k_ok_some b12).1 (k_ok_some b12).2) mX35_run.2.2.1 mX35_run.2.2.2.2.1 (Nat.le_of_ble_eq_true rfl) (Nat.le_of_ble_eq_true rfl) (fun q hq => pX35_run (by omega) hdr hsE hsL hsN hq) (fun q13 hf => ?_)
        cases hf
        exact w_iret dX35_end_190 rfl rfl rfl
      · replace hf := (if_neg (show ¬ ((18 : Int32) ≤ l1) from c9)).symm.trans hf
        refine w_iconst dX35_end_117 (v := 0) (by decide) ?_
        refine w_istore_n dX35_end_118 rfl (by decide) (ls' := [some (.ref l0), some (.int l1), some (.int l2), some (.int (0 : Int32))]) rfl ?_
        exact (pX35_end_b119 hd hdr hsE hsL hsN N _ _ _ _ _ _ hf).to ⟨rfl, rfl, rfl, rfl, trivial⟩
    · replace hf := (if_neg (show ¬ ((16 : Int32) ≤ l1) from c8)).symm.trans hf
      refine w_aload_n dX35_end_51 rfl rfl ?_
      obtain ⟨a14, b15, hf⟩ := Option.bind_eq_some_iff.mp hf
      refine GX35_8 b15 dX35_end_52 rfl ?_
      refine w_iload_n dX35_end_55 rfl rfl ?_
      refine x_cnI hf (e_stS (Yc := YX40_fault) (av := [.ref a14, .int l2]) (st := []) dX35_end_56 q4910 mX40_fault) mX40_fault.2.2.1 mX40_fault.2.2.2.2.1 (Nat.le_of_ble_eq_true rfl) (Nat.le_of_ble_eq_true rfl) (fun q hq => pX40_fault (by omega) hq) (fun q16 hf => ?_)
      refine w_istore_n dX35_end_59 rfl (by decide) (ls' := [some (.ref l0), some (.int l1), some (.int l2), some (.int q16.1)]) rfl ?_
      refine w_iload_n dX35_end_60 rfl rfl ?_
      refine w_if_ne 109 dX35_end_61 (by decide) (fun c17 => ?_) (fun c17 => ?_)
      · replace hf := (if_pos (show ¬ q16.1 = 0 from c17)).symm.trans hf
        exact (pX35_end_b109 hd hdr hsE hsL hsN hf).to ⟨rfl, trivial⟩
      · replace hf := (if_neg (show ¬ (¬ q16.1 = 0) from (fun z => z c17))).symm.trans hf
        refine w_aload_n dX35_end_64 rfl rfl ?_
        obtain ⟨a18, b19, hf⟩ := Option.bind_eq_some_iff.mp hf
        refine GX35_21 b19 dX35_end_65 rfl ?_
        refine w_iload_n dX35_end_68 rfl rfl ?_
        refine w_aload_n dX35_end_69 rfl rfl ?_
        obtain ⟨a20, b21, hf⟩ := Option.bind_eq_some_iff.mp hf
        refine GX35_21 b21 dX35_end_70 rfl ?_
        refine w_iload_n dX35_end_73 rfl rfl ?_
        obtain ⟨a22, b23, hf⟩ := Option.bind_eq_some_iff.mp hf
        refine x_rO (c := 107) (by decide) b23 dX35_end_74 ?_
        cases a22 with
        | none =>
          refine w_ifnonnullN dX35_end_75 ?_
          obtain ⟨q25, b26, hf⟩ := Option.bind_eq_some_iff.mp hf
          refine x_new (ci := 42) (g := 325) b26 dX35_end_78 rfl tyX40_ok q4121 q4971 q483 ?_
          refine w_dup dX35_end_81 rfl ?_
          refine x_cnV hf (e_stIN (Yc := YX40_init) (b := q25.1) (av := []) (st := [.ref q25.1, .int l1, .ref a18]) dX35_end_82 q4972 mX40_init) (e_mi.cd mX40_init) mX40_init.2.2.2.2.2.1 (Nat.le_of_ble_eq_true rfl) (Nat.le_of_ble_eq_true rfl) (fun q hq => pX40_init (by omega) hq) (fun q27 hf => ?_)
          refine w_goto 94 dX35_end_85 (by decide) ?_
          exact (pX35_end_b94 hd hdr hsE hsL hsN hf).to ⟨rfl, rfl, rfl, rfl, trivial⟩
        | some a24 =>
          refine w_ifnonnull 88 dX35_end_75 (by decide) ?_
          refine w_aload_n dX35_end_88 rfl rfl ?_
          obtain ⟨a28, b29, hf⟩ := Option.bind_eq_some_iff.mp hf
          refine GX35_21 b29 dX35_end_89 rfl ?_
          refine w_iload_n dX35_end_92 rfl rfl ?_
          obtain ⟨a30, b31, hf⟩ := Option.bind_eq_some_iff.mp hf
          refine x_rA (c := 107) (by decide) b31 dX35_end_93 ?_
          exact (pX35_end_b94 hd hdr hsE hsL hsN hf).to ⟨rfl, rfl, rfl, rfl, trivial⟩
  · replace hf := (if_neg (show ¬ (x3 ≤ 0) from c5)).symm.trans hf
    refine w_iconst dX35_end_38 (v := 0) (by decide) ?_
    cases hf
    exact w_iret dX35_end_39 rfl rfl rfl
def fX35_end_b23 (N : Nat) (sE : Nat → Int32 → eH → Option (Unit × eH)) (sL : Nat → Int32 → Int64 → Int64 → eH → Option (Int32 × eH)) (sN : Nat → eH → Option (Int32 × eH)) (l0 : Nat) (l1 : Int32) (l2 : Int32) (s0 : Nat) (h : eH) : Option (Int32 × eH) :=
  fX35_end_b28 N sE sL sN l0 l1 l2 s0 (1 : Int32) h
theorem pX35_end_b23 {w : eW} {d : Nat} {dr : Nat} (hd : dr + 21 ≤ d + 1) (hdr : 12 ≤ dr) {N : Nat} {sE : Nat → Int32 → eH → Option (Unit × eH)} {sL : Nat → Int32 → Int64 → Int64 → eH → Option (Int32 × eH)} {sN : Nat → eH → Option (Int32 × eH)} (hsE : ∀ a t0 h q, sE a t0 h = some q → wm w dr YX35_expand [.ref a, .int t0] h (e_is (e_rn c_V q))) (hsL : ∀ a t0 t1 t2 h q, sL a t0 t1 t2 h = some q → wm w dr YX35_layBox [.ref a, .int t0, .long t1, .long t2] h (e_is (e_rn c_I q))) (hsN : ∀ a h q, sN a h = some q → wm w dr YX35_number [.ref a] h (e_is (e_rn c_I q))) {l0 : Nat} {l1 : Int32} {l2 : Int32} {s0 : Nat} {h : eH} {q} (hf : fX35_end_b23 N sE sL sN l0 l1 l2 s0 h = some q) : wp w (d + 1) YX35_end 23 [some (.ref l0), some (.int l1), some (.int l2), none] [.ref s0] h (e_is (e_rn c_I q)) := by
  unfold fX35_end_b23 at hf
  refine w_iconst dX35_end_23 (v := 1) (by decide) ?_
  refine w_goto 28 dX35_end_24 (by decide) ?_
  exact (pX35_end_b28 hd hdr hsE hsL hsN hf).to ⟨rfl, rfl, rfl, trivial⟩
def fX35_end (N : Nat) (sE : Nat → Int32 → eH → Option (Unit × eH)) (sL : Nat → Int32 → Int64 → Int64 → eH → Option (Int32 × eH)) (sN : Nat → eH → Option (Int32 × eH)) (this : Nat) (p0 : Int32) (p1 : Int32) (h : eH) : Option (Int32 × eH) :=
  if p0 < 0 then
    fX35_end_b23 N sE sL sN this p0 p1 this h
  else
    if (18 : Int32) < p0 then
      fX35_end_b23 N sE sL sN this p0 p1 this h
    else
      if p1 < 0 then
        fX35_end_b23 N sE sL sN this p0 p1 this h
      else
        (g_I 34 h this 1).bind fun x4 =>
        if p1 ≤ x4 then
          fX35_end_b28 N sE sL sN this p0 p1 this (0 : Int32) h
        else
          fX35_end_b23 N sE sL sN this p0 p1 this h
theorem pX35_end {w : eW} {d : Nat} {dr : Nat} (hd : dr + 21 ≤ d) (hdr : 12 ≤ dr) {N : Nat} {sE : Nat → Int32 → eH → Option (Unit × eH)} {sL : Nat → Int32 → Int64 → Int64 → eH → Option (Int32 × eH)} {sN : Nat → eH → Option (Int32 × eH)} (hsE : ∀ a t0 h q, sE a t0 h = some q → wm w dr YX35_expand [.ref a, .int t0] h (e_is (e_rn c_V q))) (hsL : ∀ a t0 t1 t2 h q, sL a t0 t1 t2 h = some q → wm w dr YX35_layBox [.ref a, .int t0, .long t1, .long t2] h (e_is (e_rn c_I q))) (hsN : ∀ a h q, sN a h = some q → wm w dr YX35_number [.ref a] h (e_is (e_rn c_I q))) {this : Nat} {p0 : Int32} {p1 : Int32} {h : eH} {q} (hf : fX35_end N sE sL sN this p0 p1 h = some q) : wm w d YX35_end [.ref this, .int p0, .int p1] h (e_is (e_rn c_I q)) := by
  obtain ⟨d, rfl⟩ : ∃ e, d = e + 1 := ⟨d - 1, by omega⟩
  show wp w (d + 1) YX35_end 0 [some (.ref this), some (.int p0), some (.int p1), none] [] h _
  unfold fX35_end at hf
  refine w_aload_n dX35_end_0 rfl rfl ?_
  refine w_iload_n dX35_end_1 rfl rfl ?_
  refine w_if_lt 23 dX35_end_2 (by decide) (fun c1 => ?_) (fun c1 => ?_)
  · replace hf := (if_pos (show p0 < 0 from c1)).symm.trans hf
    exact (pX35_end_b23 hd hdr hsE hsL hsN hf).to ⟨rfl, rfl, rfl, trivial⟩
  · replace hf := (if_neg (show ¬ (p0 < 0) from c1)).symm.trans hf
    refine w_iload_n dX35_end_5 rfl rfl ?_
    refine w_bipush dX35_end_6 (v := 18) (by decide) ?_
    refine w_icmp_gt 23 dX35_end_8 (by decide) (fun c2 => ?_) (fun c2 => ?_)
    · replace hf := (if_pos (show (18 : Int32) < p0 from c2)).symm.trans hf
      exact (pX35_end_b23 hd hdr hsE hsL hsN hf).to ⟨rfl, rfl, rfl, trivial⟩
    · replace hf := (if_neg (show ¬ ((18 : Int32) < p0) from c2)).symm.trans hf
      refine w_iload_n dX35_end_11 rfl rfl ?_
      refine w_if_lt 23 dX35_end_12 (by decide) (fun c3 => ?_) (fun c3 => ?_)
      · replace hf := (if_pos (show p1 < 0 from c3)).symm.trans hf
        exact (pX35_end_b23 hd hdr hsE hsL hsN hf).to ⟨rfl, rfl, rfl, trivial⟩
      · replace hf := (if_neg (show ¬ (p1 < 0) from c3)).symm.trans hf
        refine w_iload_n dX35_end_15 rfl rfl ?_
        refine w_aload_n dX35_end_16 rfl rfl ?_
        obtain ⟨x4, b5, hf⟩ := Option.bind_eq_some_iff.mp hf
        refine GX35_255 b5 dX35_end_17 rfl ?_
        refine w_icmp_le 27 dX35_end_20 (by decide) (fun c6 => ?_) (fun c6 => ?_)
        · replace hf := (if_pos (show p1 ≤ x4 from c6)).symm.trans hf
          refine w_iconst dX35_end_27 (v := 0) (by decide) ?_
          exact (pX35_end_b28 hd hdr hsE hsL hsN hf).to ⟨rfl, rfl, rfl, trivial⟩
        · replace hf := (if_neg (show ¬ (p1 ≤ x4) from c6)).symm.trans hf
          exact (pX35_end_b23 hd hdr hsE hsL hsN hf).to ⟨rfl, rfl, rfl, trivial⟩
abbrev cX35_makeName : ByteArray := prog_37_method_45_code
def yX35_makeName : MethodName := ⟨RX35, "makeName", "()V"⟩
def YX35_makeName : eY := (yX35_makeName, cX35_makeName, 4, none, [])
theorem mX35_makeName : e_mv YX35_makeName RX35 0 := ⟨q5191, qs260, q5192, by decide, by decide +kernel, (e_sig (by decide +kernel))⟩
theorem dX35_makeName_0 : decode cX35_makeName 0 = .ok (.iconst 0, 1) := dc_3 (by decide +kernel)
theorem dX35_makeName_1 : decode cX35_makeName 1 = .ok (.istore_n 1, 1) := dc_60 (by decide +kernel)
theorem dX35_makeName_2 : decode cX35_makeName 2 = .ok (.aload_n 0, 1) := dc_42 (by decide +kernel)
theorem dX35_makeName_3 : decode cX35_makeName 3 = .ok (.invokevirtual 490, 3) := dc_182 (a := 1) (b := 234) (n := 490) (by decide +kernel)
theorem dX35_makeName_6 : decode cX35_makeName 6 = .ok (.istore_n 2, 1) := dc_61 (by decide +kernel)
theorem dX35_makeName_7 : decode cX35_makeName 7 = .ok (.aload_n 0, 1) := dc_42 (by decide +kernel)
theorem dX35_makeName_8 : decode cX35_makeName 8 = .ok (.getfield 321, 3) := dc_180 (a := 1) (b := 65) (n := 321) (by decide +kernel)
theorem dX35_makeName_11 : decode cX35_makeName 11 = .ok (.ifCond .ne 73, 3) := dc_154 (a := 0) (b := 73) (v := 73) (by decide +kernel)
theorem dX35_makeName_14 : decode cX35_makeName 14 = .ok (.aload_n 0, 1) := dc_42 (by decide +kernel)
theorem dX35_makeName_15 : decode cX35_makeName 15 = .ok (.iload_n 2, 1) := dc_28 (by decide +kernel)
theorem dX35_makeName_16 : decode cX35_makeName 16 = .ok (.bipush 27, 2) := dc_16 (a := 27) (v := 27) (by decide +kernel)
theorem dX35_makeName_18 : decode cX35_makeName 18 = .ok (.invokevirtual 554, 3) := dc_182 (a := 2) (b := 42) (n := 554) (by decide +kernel)
theorem dX35_makeName_21 : decode cX35_makeName 21 = .ok (.ifCond .ne 63, 3) := dc_154 (a := 0) (b := 63) (v := 63) (by decide +kernel)
theorem dX35_makeName_24 : decode cX35_makeName 24 = .ok (.iload_n 2, 1) := dc_28 (by decide +kernel)
theorem dX35_makeName_25 : decode cX35_makeName 25 = .ok (.invokestatic 459, 3) := dc_184 (a := 1) (b := 203) (n := 459) (by decide +kernel)
theorem dX35_makeName_28 : decode cX35_makeName 28 = .ok (.ifCond .ne 12, 3) := dc_154 (a := 0) (b := 12) (v := 12) (by decide +kernel)
theorem dX35_makeName_31 : decode cX35_makeName 31 = .ok (.aload_n 0, 1) := dc_42 (by decide +kernel)
theorem dX35_makeName_32 : decode cX35_makeName 32 = .ok (.bipush 6, 2) := dc_16 (a := 6) (v := 6) (by decide +kernel)
theorem dX35_makeName_34 : decode cX35_makeName 34 = .ok (.invokevirtual 428, 3) := dc_182 (a := 1) (b := 172) (n := 428) (by decide +kernel)
theorem dX35_makeName_37 : decode cX35_makeName 37 = .ok (.goto 39, 3) := dc_167 (a := 0) (b := 39) (v := 39) (by decide +kernel)
theorem dX35_makeName_40 : decode cX35_makeName 40 = .ok (.iload_n 1, 1) := dc_27 (by decide +kernel)
theorem dX35_makeName_41 : decode cX35_makeName 41 = .ok (.bipush 40, 2) := dc_16 (a := 40) (v := 40) (by decide +kernel)
theorem dX35_makeName_43 : decode cX35_makeName 43 = .ok (.if_icmp .ne 11, 3) := dc_160 (a := 0) (b := 11) (v := 11) (by decide +kernel)
theorem dX35_makeName_46 : decode cX35_makeName 46 = .ok (.aload_n 0, 1) := dc_42 (by decide +kernel)
theorem dX35_makeName_47 : decode cX35_makeName 47 = .ok (.iconst 2, 1) := dc_5 (by decide +kernel)
theorem dX35_makeName_48 : decode cX35_makeName 48 = .ok (.invokevirtual 428, 3) := dc_182 (a := 1) (b := 172) (n := 428) (by decide +kernel)
theorem dX35_makeName_51 : decode cX35_makeName 51 = .ok (.goto 25, 3) := dc_167 (a := 0) (b := 25) (v := 25) (by decide +kernel)
theorem dX35_makeName_54 : decode cX35_makeName 54 = .ok (.aload_n 0, 1) := dc_42 (by decide +kernel)
theorem dX35_makeName_55 : decode cX35_makeName 55 = .ok (.getfield 61, 3) := dc_180 (a := 0) (b := 61) (n := 61) (by decide +kernel)
theorem dX35_makeName_58 : decode cX35_makeName 58 = .ok (.bipush 41, 2) := dc_16 (a := 41) (v := 41) (by decide +kernel)
theorem dX35_makeName_60 : decode cX35_makeName 60 = .ok (.aload_n 0, 1) := dc_42 (by decide +kernel)
theorem dX35_makeName_61 : decode cX35_makeName 61 = .ok (.getfield 353, 3) := dc_180 (a := 1) (b := 97) (n := 353) (by decide +kernel)
theorem dX35_makeName_64 : decode cX35_makeName 64 = .ok (.imul, 1) := dc_104 (by decide +kernel)
theorem dX35_makeName_65 : decode cX35_makeName 65 = .ok (.iload_n 1, 1) := dc_27 (by decide +kernel)
theorem dX35_makeName_66 : decode cX35_makeName 66 = .ok (.iadd, 1) := dc_96 (by decide +kernel)
theorem dX35_makeName_67 : decode cX35_makeName 67 = .ok (.iload_n 2, 1) := dc_28 (by decide +kernel)
theorem dX35_makeName_68 : decode cX35_makeName 68 = .ok (.sipush 256, 3) := dc_17 (a := 1) (b := 0) (v := 256) (by decide +kernel)
theorem dX35_makeName_71 : decode cX35_makeName 71 = .ok (.irem, 1) := dc_112 (by decide +kernel)
theorem dX35_makeName_72 : decode cX35_makeName 72 = .ok (.iastore, 1) := dc_79 (by decide +kernel)
theorem dX35_makeName_73 : decode cX35_makeName 73 = .ok (.iinc 1 1, 3) := dc_132 (a := 1) (b := 1) (v := 1) (by decide +kernel)
theorem dX35_makeName_76 : decode cX35_makeName 76 = .ok (.aload_n 0, 1) := dc_42 (by decide +kernel)
theorem dX35_makeName_77 : decode cX35_makeName 77 = .ok (.invokevirtual 490, 3) := dc_182 (a := 1) (b := 234) (n := 490) (by decide +kernel)
theorem dX35_makeName_80 : decode cX35_makeName 80 = .ok (.istore_n 2, 1) := dc_61 (by decide +kernel)
theorem dX35_makeName_81 : decode cX35_makeName 81 = .ok (.goto (-74), 3) := dc_167 (a := 255) (b := 182) (v := -74) (by decide +kernel)
theorem dX35_makeName_84 : decode cX35_makeName 84 = .ok (.aload_n 0, 1) := dc_42 (by decide +kernel)
theorem dX35_makeName_85 : decode cX35_makeName 85 = .ok (.getfield 321, 3) := dc_180 (a := 1) (b := 65) (n := 321) (by decide +kernel)
theorem dX35_makeName_88 : decode cX35_makeName 88 = .ok (.ifCond .le 4, 3) := dc_158 (a := 0) (b := 4) (v := 4) (by decide +kernel)
theorem dX35_makeName_91 : decode cX35_makeName 91 = .ok (.return_, 1) := dc_177 (by decide +kernel)
theorem dX35_makeName_92 : decode cX35_makeName 92 = .ok (.aload_n 0, 1) := dc_42 (by decide +kernel)
theorem dX35_makeName_93 : decode cX35_makeName 93 = .ok (.iconst 0, 1) := dc_3 (by decide +kernel)
theorem dX35_makeName_94 : decode cX35_makeName 94 = .ok (.putfield 413, 3) := dc_181 (a := 1) (b := 157) (n := 413) (by decide +kernel)
theorem dX35_makeName_97 : decode cX35_makeName 97 = .ok (.iconst 0, 1) := dc_3 (by decide +kernel)
theorem dX35_makeName_98 : decode cX35_makeName 98 = .ok (.istore_n 3, 1) := dc_62 (by decide +kernel)
theorem dX35_makeName_99 : decode cX35_makeName 99 = .ok (.iload_n 3, 1) := dc_29 (by decide +kernel)
theorem dX35_makeName_100 : decode cX35_makeName 100 = .ok (.iload_n 1, 1) := dc_27 (by decide +kernel)
theorem dX35_makeName_101 : decode cX35_makeName 101 = .ok (.if_icmp .ge 27, 3) := dc_162 (a := 0) (b := 27) (v := 27) (by decide +kernel)
theorem dX35_makeName_104 : decode cX35_makeName 104 = .ok (.aload_n 0, 1) := dc_42 (by decide +kernel)
theorem dX35_makeName_105 : decode cX35_makeName 105 = .ok (.aload_n 0, 1) := dc_42 (by decide +kernel)
theorem dX35_makeName_106 : decode cX35_makeName 106 = .ok (.getfield 61, 3) := dc_180 (a := 0) (b := 61) (n := 61) (by decide +kernel)
theorem dX35_makeName_109 : decode cX35_makeName 109 = .ok (.bipush 41, 2) := dc_16 (a := 41) (v := 41) (by decide +kernel)
theorem dX35_makeName_111 : decode cX35_makeName 111 = .ok (.aload_n 0, 1) := dc_42 (by decide +kernel)
theorem dX35_makeName_112 : decode cX35_makeName 112 = .ok (.getfield 353, 3) := dc_180 (a := 1) (b := 97) (n := 353) (by decide +kernel)
theorem dX35_makeName_115 : decode cX35_makeName 115 = .ok (.imul, 1) := dc_104 (by decide +kernel)
theorem dX35_makeName_116 : decode cX35_makeName 116 = .ok (.iload_n 3, 1) := dc_29 (by decide +kernel)
theorem dX35_makeName_117 : decode cX35_makeName 117 = .ok (.iadd, 1) := dc_96 (by decide +kernel)
theorem dX35_makeName_118 : decode cX35_makeName 118 = .ok (.iaload, 1) := dc_46 (by decide +kernel)
theorem dX35_makeName_119 : decode cX35_makeName 119 = .ok (.invokevirtual 438, 3) := dc_182 (a := 1) (b := 182) (n := 438) (by decide +kernel)
theorem dX35_makeName_122 : decode cX35_makeName 122 = .ok (.iinc 3 1, 3) := dc_132 (a := 3) (b := 1) (v := 1) (by decide +kernel)
theorem dX35_makeName_125 : decode cX35_makeName 125 = .ok (.goto (-26), 3) := dc_167 (a := 255) (b := 230) (v := -26) (by decide +kernel)
theorem dX35_makeName_128 : decode cX35_makeName 128 = .ok (.aload_n 0, 1) := dc_42 (by decide +kernel)
theorem dX35_makeName_129 : decode cX35_makeName 129 = .ok (.invokevirtual 441, 3) := dc_182 (a := 1) (b := 185) (n := 441) (by decide +kernel)
theorem dX35_makeName_132 : decode cX35_makeName 132 = .ok (.istore_n 3, 1) := dc_62 (by decide +kernel)
theorem dX35_makeName_133 : decode cX35_makeName 133 = .ok (.aload_n 0, 1) := dc_42 (by decide +kernel)
theorem dX35_makeName_134 : decode cX35_makeName 134 = .ok (.getfield 321, 3) := dc_180 (a := 1) (b := 65) (n := 321) (by decide +kernel)
theorem dX35_makeName_137 : decode cX35_makeName 137 = .ok (.ifCond .ne 20, 3) := dc_154 (a := 0) (b := 20) (v := 20) (by decide +kernel)
theorem dX35_makeName_140 : decode cX35_makeName 140 = .ok (.aload_n 0, 1) := dc_42 (by decide +kernel)
theorem dX35_makeName_141 : decode cX35_makeName 141 = .ok (.iload_n 3, 1) := dc_29 (by decide +kernel)
theorem dX35_makeName_142 : decode cX35_makeName 142 = .ok (.invokevirtual 474, 3) := dc_182 (a := 1) (b := 218) (n := 474) (by decide +kernel)
theorem dX35_makeName_145 : decode cX35_makeName 145 = .ok (.ifCond .ne 12, 3) := dc_154 (a := 0) (b := 12) (v := 12) (by decide +kernel)
theorem dX35_makeName_148 : decode cX35_makeName 148 = .ok (.aload_n 0, 1) := dc_42 (by decide +kernel)
theorem dX35_makeName_149 : decode cX35_makeName 149 = .ok (.iload_n 3, 1) := dc_29 (by decide +kernel)
theorem dX35_makeName_150 : decode cX35_makeName 150 = .ok (.sipush 1022, 3) := dc_17 (a := 3) (b := 254) (v := 1022) (by decide +kernel)
theorem dX35_makeName_153 : decode cX35_makeName 153 = .ok (.iconst 0, 1) := dc_3 (by decide +kernel)
theorem dX35_makeName_154 : decode cX35_makeName 154 = .ok (.invokevirtual 557, 3) := dc_182 (a := 2) (b := 45) (n := 557) (by decide +kernel)
theorem dX35_makeName_157 : decode cX35_makeName 157 = .ok (.aload_n 0, 1) := dc_42 (by decide +kernel)
theorem dX35_makeName_158 : decode cX35_makeName 158 = .ok (.iload_n 3, 1) := dc_29 (by decide +kernel)
theorem dX35_makeName_159 : decode cX35_makeName 159 = .ok (.invokevirtual 509, 3) := dc_182 (a := 1) (b := 253) (n := 509) (by decide +kernel)
theorem dX35_makeName_162 : decode cX35_makeName 162 = .ok (.return_, 1) := dc_177 (by decide +kernel)
theorem GX35_61 {w : eW} {d : Nat} {Y : eY} {pc : Nat} {ls : eL} {st : List Value} {h : eH} {Q : eO → eH → Prop} {a : Nat} {x : Nat} (hf : g_A 34 h a 20 = some x) (hd : decode Y.2.1 pc = .ok (.getfield 61, 3)) (hY : Y.1.cls = RX35) (kk : wp w d Y (pc + 3) ls (.ref x :: st) h Q) : wp w d Y pc ls (.ref a :: st) h Q := x_gA (ci := 34) (k := 20) hf hd rfl (by decide) (by rw [hY]; exact q4522) kk
def fX35_makeName_b76 (N : Nat) (sE : Nat → Int32 → eH → Option (Unit × eH)) (k7 : Nat → Int32 → Int32 → eH → Option (Unit × eH)) (l0 : Nat) (l1 : Int32) (h : eH) : Option (Unit × eH) :=
  (k_ok 34 h l0).bind fun _ =>
  (fX35_needExpanded N sE l0 h).bind fun q2 =>
  k7 l0 l1 q2.1 q2.2
theorem pX35_makeName_b76 {w : eW} {d : Nat} {dr : Nat} (hd : dr + 7 ≤ d + 1) (hdr : 12 ≤ dr) {N : Nat} {sE : Nat → Int32 → eH → Option (Unit × eH)} (hsE : ∀ a t0 h q, sE a t0 h = some q → wm w dr YX35_expand [.ref a, .int t0] h (e_is (e_rn c_V q))) {k7 : Nat → Int32 → Int32 → eH → Option (Unit × eH)} (hk7 : ∀ l0 l1 l2 h q, k7 l0 l1 l2 h = some q → wp w (d + 1) YX35_makeName 7 [some (.ref l0), some (.int l1), some (.int l2), none] [] h (e_is (e_rn c_V q))) {l0 : Nat} {l1 : Int32} {h : eH} {q} (hf : fX35_makeName_b76 N sE k7 l0 l1 h = some q) : wp w (d + 1) YX35_makeName 76 [some (.ref l0), some (.int l1), none, none] [] h (e_is (e_rn c_V q)) := by
  unfold fX35_makeName_b76 at hf
  refine w_aload_n dX35_makeName_76 rfl rfl ?_
  obtain ⟨_, b1, hf⟩ := Option.bind_eq_some_iff.mp hf
  refine x_cnI hf (e_stV (Yc := YX35_needExpanded) (ci := 34) (av := []) (st := []) dX35_makeName_77 q5193 mX35_needExpanded rfl (k_ok_some b1).1 (k_ok_some b1).2) mX35_needExpanded.2.2.1 mX35_needExpanded.2.2.2.2.1 (Nat.le_of_ble_eq_true rfl) (Nat.le_of_ble_eq_true rfl) (fun q hq => pX35_needExpanded (by omega) hdr hsE hq) (fun q2 hf => ?_)
  refine w_istore_n dX35_makeName_80 rfl (by decide) (ls' := [some (.ref l0), some (.int l1), some (.int q2.1), none]) rfl ?_
  refine w_goto 7 dX35_makeName_81 (by decide) ?_
  exact (hk7 _ _ _ _ _ hf).to ⟨rfl, rfl, rfl, trivial⟩
def fX35_makeName_b157 (N : Nat) (sE : Nat → Int32 → eH → Option (Unit × eH)) (l0 : Nat) (l3 : Int32) (h : eH) : Option (Unit × eH) :=
  (k_ok 34 h l0).bind fun _ =>
  (fX35_put l0 l3 h).bind fun q2 =>
  some ((), q2.2)
theorem pX35_makeName_b157 {w : eW} {d : Nat} {dr : Nat} (hd : dr + 7 ≤ d + 1) (hdr : 12 ≤ dr) {N : Nat} {sE : Nat → Int32 → eH → Option (Unit × eH)} (hsE : ∀ a t0 h q, sE a t0 h = some q → wm w dr YX35_expand [.ref a, .int t0] h (e_is (e_rn c_V q))) {l0 : Nat} {l3 : Int32} {h : eH} {q} (hf : fX35_makeName_b157 N sE l0 l3 h = some q) : wp w (d + 1) YX35_makeName 157 [some (.ref l0), none, none, some (.int l3)] [] h (e_is (e_rn c_V q)) := by
  unfold fX35_makeName_b157 at hf
  refine w_aload_n dX35_makeName_157 rfl rfl ?_
  refine w_iload_n dX35_makeName_158 rfl rfl ?_
  obtain ⟨_, b1, hf⟩ := Option.bind_eq_some_iff.mp hf
  refine x_cnV hf (e_stV (Yc := YX35_put) (ci := 34) (av := [.int l3]) (st := []) dX35_makeName_159 q5181 mX35_put rfl (k_ok_some b1).1 (k_ok_some b1).2) mX35_put.2.2.1 mX35_put.2.2.2.2.1 (Nat.le_of_ble_eq_true rfl) (Nat.le_of_ble_eq_true rfl) (fun q hq => pX35_put (by omega) hq) (fun q2 hf => ?_)
  cases hf
  exact w_vret dX35_makeName_162 rfl rfl
def fX35_makeName_b99 (N : Nat) (sE : Nat → Int32 → eH → Option (Unit × eH)) : Nat → Nat → Int32 → Int32 → eH → Option (Unit × eH)
  | 0, _, _, _, _ => none
  | n + 1, l0, l1, l3, h =>
    if l1 ≤ l3 then
      (k_ok 34 h l0).bind fun _ =>
      (fX35_nameToken N l0 h).bind fun q3 =>
      (g_I 34 q3.2 l0 46).bind fun x4 =>
      if ¬ x4 = 0 then
        fX35_makeName_b157 N sE l0 q3.1 q3.2
      else
        (k_ok 34 q3.2 l0).bind fun _ =>
        (fX35_meaning l0 q3.1 q3.2).bind fun q8 =>
        if ¬ q8.1 = 0 then
          fX35_makeName_b157 N sE l0 q3.1 q8.2
        else
          (k_ok 34 q8.2 l0).bind fun _ =>
          (fX35_mean N l0 q3.1 (1022 : Int32) (0 : Int32) q8.2).bind fun q11 =>
          fX35_makeName_b157 N sE l0 q3.1 q11.2
    else
      (g_A 34 h l0 20).bind fun a12 =>
      (g_I 34 h l0 45).bind fun x14 =>
      (r_I 100 h a12 (((41 : Int32) * x14) + l3)).bind fun x16 =>
      (k_ok 34 h l0).bind fun _ =>
      (fX35_spell l0 x16 h).bind fun q19 =>
      fX35_makeName_b99 N sE n l0 l1 (l3 + (1 : Int32)) q19.2
theorem pX35_makeName_b99 {w : eW} {d : Nat} {dr : Nat} (hd : dr + 7 ≤ d + 1) (hdr : 12 ≤ dr) {N : Nat} {sE : Nat → Int32 → eH → Option (Unit × eH)} (hsE : ∀ a t0 h q, sE a t0 h = some q → wm w dr YX35_expand [.ref a, .int t0] h (e_is (e_rn c_V q))) : ∀ (n : Nat) l0 l1 l3 h q, fX35_makeName_b99 N sE n l0 l1 l3 h = some q → wp w (d + 1) YX35_makeName 99 [some (.ref l0), some (.int l1), none, some (.int l3)] [] h (e_is (e_rn c_V q)) := by
  intro n
  induction n with
  | zero => intro l0 l1 l3 h q hf; simp [fX35_makeName_b99] at hf
  | succ n ih =>
    intro l0 l1 l3 h q hf
    rw [fX35_makeName_b99] at hf
    refine w_iload_n dX35_makeName_99 rfl rfl ?_
    refine w_iload_n dX35_makeName_100 rfl rfl ?_
    refine w_icmp_ge 128 dX35_makeName_101 (by decide) (fun c1 => ?_) (fun c1 => ?_)
    · replace hf := (if_pos (show l1 ≤ l3 from c1)).symm.trans hf
      refine w_aload_n dX35_makeName_128 rfl rfl ?_
      obtain ⟨_, b2, hf⟩ := Option.bind_eq_some_iff.mp hf
      refine x_cnI hf (e_stV (Yc := YX35_nameToken) (ci := 34) (av := []) (st := []) dX35_makeName_129 q5113 mX35_nameToken rfl (k_ok_some b2).1 (k_ok_some b2).2) mX35_nameToken.2.2.1 mX35_nameToken.2.2.2.2.1 (Nat.le_of_ble_eq_true rfl) (Nat.le_of_ble_eq_true rfl) (fun q hq => pX35_nameToken (by omega) hq) (fun q3 hf => ?_)
      refine w_istore_n dX35_makeName_132 rfl (by decide) (ls' := [some (.ref l0), some (.int l1), none, some (.int q3.1)]) rfl ?_
      refine w_aload_n dX35_makeName_133 rfl rfl ?_
      obtain ⟨x4, b5, hf⟩ := Option.bind_eq_some_iff.mp hf
      refine GX35_321 b5 dX35_makeName_134 rfl ?_
      refine w_if_ne 157 dX35_makeName_137 (by decide) (fun c6 => ?_) (fun c6 => ?_)
      · replace hf := (if_pos (show ¬ x4 = 0 from c6)).symm.trans hf
        exact (pX35_makeName_b157 hd hdr hsE hf).to ⟨rfl, rfl, trivial⟩
      · replace hf := (if_neg (show ¬ (¬ x4 = 0) from (fun z => z c6))).symm.trans hf
        refine w_aload_n dX35_makeName_140 rfl rfl ?_
        refine w_iload_n dX35_makeName_141 rfl rfl ?_
        obtain ⟨_, b7, hf⟩ := Option.bind_eq_some_iff.mp hf
        refine x_cnI hf (e_stV (Yc := YX35_meaning) (ci := 34) (av := [.int q3.1]) (st := []) dX35_makeName_142 q5130 mX35_meaning rfl (k_ok_some b7).1 (k_ok_some b7).2) mX35_meaning.2.2.1 mX35_meaning.2.2.2.2.1 (Nat.le_of_ble_eq_true rfl) (Nat.le_of_ble_eq_true rfl) (fun q hq => pX35_meaning (by omega) hq) (fun q8 hf => ?_)
        refine w_if_ne 157 dX35_makeName_145 (by decide) (fun c9 => ?_) (fun c9 => ?_)
        · replace hf := (if_pos (show ¬ q8.1 = 0 from c9)).symm.trans hf
          exact (pX35_makeName_b157 hd hdr hsE hf).to ⟨rfl, rfl, trivial⟩
        · replace hf := (if_neg (show ¬ (¬ q8.1 = 0) from (fun z => z c9))).symm.trans hf
          refine w_aload_n dX35_makeName_148 rfl rfl ?_
          refine w_iload_n dX35_makeName_149 rfl rfl ?_
          refine w_sipush dX35_makeName_150 (v := 1022) (by decide) ?_
          refine w_iconst dX35_makeName_153 (v := 0) (by decide) ?_
          obtain ⟨_, b10, hf⟩ := Option.bind_eq_some_iff.mp hf
          refine x_cnV hf (e_stV (Yc := YX35_mean) (ci := 34) (av := [.int q3.1, .int (1022 : Int32), .int (0 : Int32)]) (st := []) dX35_makeName_154 q5201 mX35_mean rfl (k_ok_some b10).1 (k_ok_some b10).2) mX35_mean.2.2.1 mX35_mean.2.2.2.2.1 (Nat.le_of_ble_eq_true rfl) (Nat.le_of_ble_eq_true rfl) (fun q hq => pX35_mean (by omega) hq) (fun q11 hf => ?_)
          exact (pX35_makeName_b157 hd hdr hsE hf).to ⟨rfl, rfl, trivial⟩
    · replace hf := (if_neg (show ¬ (l1 ≤ l3) from c1)).symm.trans hf
      refine w_aload_n dX35_makeName_104 rfl rfl ?_
      refine w_aload_n dX35_makeName_105 rfl rfl ?_
      obtain ⟨a12, b13, hf⟩ := Option.bind_eq_some_iff.mp hf
      refine GX35_61 b13 dX35_makeName_106 rfl ?_
      refine w_bipush dX35_makeName_109 (v := 41) (by decide) ?_
      refine w_aload_n dX35_makeName_111 rfl rfl ?_
      obtain ⟨x14, b15, hf⟩ := Option.bind_eq_some_iff.mp hf
      refine GX35_353 b15 dX35_makeName_112 rfl ?_
      refine w_imul dX35_makeName_115 ?_
      refine w_iload_n dX35_makeName_116 rfl rfl ?_
      refine w_iadd dX35_makeName_117 ?_
      obtain ⟨x16, b17, hf⟩ := Option.bind_eq_some_iff.mp hf
      refine x_rI b17 dX35_makeName_118 ?_
      obtain ⟨_, b18, hf⟩ := Option.bind_eq_some_iff.mp hf
      refine x_cnV hf (e_stV (Yc := YX35_spell) (ci := 34) (av := [.int x16]) (st := []) dX35_makeName_119 q5105 mX35_spell rfl (k_ok_some b18).1 (k_ok_some b18).2) mX35_spell.2.2.1 mX35_spell.2.2.2.2.1 (Nat.le_of_ble_eq_true rfl) (Nat.le_of_ble_eq_true rfl) (fun q hq => pX35_spell (by omega) hq) (fun q19 hf => ?_)
      refine w_iinc dX35_makeName_122 (v := (l3 + (1 : Int32))) rfl rfl (by decide) (ls' := [some (.ref l0), some (.int l1), none, some (.int (l3 + (1 : Int32)))]) rfl ?_
      refine w_goto 99 dX35_makeName_125 (by decide) ?_
      exact (ih _ _ _ _ _ hf).to ⟨rfl, rfl, rfl, trivial⟩
def fX35_makeName_b84 (N : Nat) (sE : Nat → Int32 → eH → Option (Unit × eH)) (l0 : Nat) (l1 : Int32) (h : eH) : Option (Unit × eH) :=
  (g_I 34 h l0 46).bind fun x1 =>
  if x1 ≤ 0 then
    (p_V 34 h l0 19 (.int (0 : Int32))).bind fun h4 =>
    fX35_makeName_b99 N sE N l0 l1 (0 : Int32) h4
  else
    some ((), h)
theorem pX35_makeName_b84 {w : eW} {d : Nat} {dr : Nat} (hd : dr + 7 ≤ d + 1) (hdr : 12 ≤ dr) {N : Nat} {sE : Nat → Int32 → eH → Option (Unit × eH)} (hsE : ∀ a t0 h q, sE a t0 h = some q → wm w dr YX35_expand [.ref a, .int t0] h (e_is (e_rn c_V q))) {l0 : Nat} {l1 : Int32} {h : eH} {q} (hf : fX35_makeName_b84 N sE l0 l1 h = some q) : wp w (d + 1) YX35_makeName 84 [some (.ref l0), some (.int l1), none, none] [] h (e_is (e_rn c_V q)) := by
  unfold fX35_makeName_b84 at hf
  refine w_aload_n dX35_makeName_84 rfl rfl ?_
  obtain ⟨x1, b2, hf⟩ := Option.bind_eq_some_iff.mp hf
  refine GX35_321 b2 dX35_makeName_85 rfl ?_
  refine w_if_le 92 dX35_makeName_88 (by decide) (fun c3 => ?_) (fun c3 => ?_)
  · replace hf := (if_pos (show x1 ≤ 0 from c3)).symm.trans hf
    refine w_aload_n dX35_makeName_92 rfl rfl ?_
    refine w_iconst dX35_makeName_93 (v := 0) (by decide) ?_
    obtain ⟨h4, b5, hf⟩ := Option.bind_eq_some_iff.mp hf
    refine SX35_413 b5 dX35_makeName_94 rfl ?_
    refine w_iconst dX35_makeName_97 (v := 0) (by decide) ?_
    refine w_istore_n dX35_makeName_98 rfl (by decide) (ls' := [some (.ref l0), some (.int l1), none, some (.int (0 : Int32))]) rfl ?_
    exact (pX35_makeName_b99 hd hdr hsE N _ _ _ _ _ hf).to ⟨rfl, rfl, rfl, trivial⟩
  · replace hf := (if_neg (show ¬ (x1 ≤ 0) from c3)).symm.trans hf
    cases hf
    exact w_vret dX35_makeName_91 rfl rfl
def fX35_makeName_b7 (N : Nat) (sE : Nat → Int32 → eH → Option (Unit × eH)) : Nat → Nat → Int32 → Int32 → eH → Option (Unit × eH)
  | 0, _, _, _, _ => none
  | n + 1, l0, l1, l2, h =>
    (g_I 34 h l0 46).bind fun x1 =>
    if ¬ x1 = 0 then
      fX35_makeName_b84 N sE l0 l1 h
    else
      (k_ok 34 h l0).bind fun _ =>
      (fX35_means l0 l2 (27 : Int32) h).bind fun q5 =>
      if ¬ q5.1 = 0 then
        fX35_makeName_b84 N sE l0 l1 q5.2
      else
        (fX35_isCharacter l2 q5.2).bind fun q7 =>
        if ¬ q7.1 = 0 then
          if ¬ l1 = (40 : Int32) then
            (g_A 34 q7.2 l0 20).bind fun a10 =>
            (g_I 34 q7.2 l0 45).bind fun x12 =>
            (q_V 100 q7.2 a10 (((41 : Int32) * x12) + l1) (.int (l2 - l2 / (256 : Int32) * (256 : Int32)))).bind fun h14 =>
            fX35_makeName_b76 N sE (fX35_makeName_b7 N sE n) l0 (l1 + (1 : Int32)) h14
          else
            (k_ok 34 q7.2 l0).bind fun _ =>
            (fX35_fail l0 (2 : Int32) q7.2).bind fun q17 =>
            fX35_makeName_b76 N sE (fX35_makeName_b7 N sE n) l0 l1 q17.2
        else
          (k_ok 34 q7.2 l0).bind fun _ =>
          (fX35_fail l0 (6 : Int32) q7.2).bind fun q19 =>
          fX35_makeName_b76 N sE (fX35_makeName_b7 N sE n) l0 l1 q19.2
theorem pX35_makeName_b7 {w : eW} {d : Nat} {dr : Nat} (hd : dr + 7 ≤ d + 1) (hdr : 12 ≤ dr) {N : Nat} {sE : Nat → Int32 → eH → Option (Unit × eH)} (hsE : ∀ a t0 h q, sE a t0 h = some q → wm w dr YX35_expand [.ref a, .int t0] h (e_is (e_rn c_V q))) : ∀ (n : Nat) l0 l1 l2 h q, fX35_makeName_b7 N sE n l0 l1 l2 h = some q → wp w (d + 1) YX35_makeName 7 [some (.ref l0), some (.int l1), some (.int l2), none] [] h (e_is (e_rn c_V q)) := by
  intro n
  induction n with
  | zero => intro l0 l1 l2 h q hf; simp [fX35_makeName_b7] at hf
  | succ n ih =>
    intro l0 l1 l2 h q hf
    rw [fX35_makeName_b7] at hf
    refine w_aload_n dX35_makeName_7 rfl rfl ?_
    obtain ⟨x1, b2, hf⟩ := Option.bind_eq_some_iff.mp hf
    refine GX35_321 b2 dX35_makeName_8 rfl ?_
    refine w_if_ne 84 dX35_makeName_11 (by decide) (fun c3 => ?_) (fun c3 => ?_)
    · replace hf := (if_pos (show ¬ x1 = 0 from c3)).symm.trans hf
      exact (pX35_makeName_b84 hd hdr hsE hf).to ⟨rfl, rfl, trivial⟩
    · replace hf := (if_neg (show ¬ (¬ x1 = 0) from (fun z => z c3))).symm.trans hf
      refine w_aload_n dX35_makeName_14 rfl rfl ?_
      refine w_iload_n dX35_makeName_15 rfl rfl ?_
      refine w_bipush dX35_makeName_16 (v := 27) (by decide) ?_
      obtain ⟨_, b4, hf⟩ := Option.bind_eq_some_iff.mp hf
      refine x_cnI hf (e_stV (Yc := YX35_means) (ci := 34) (av := [.int l2, .int (27 : Int32)]) (st := []) dX35_makeName_18 q5197 mX35_means rfl (k_ok_some b4).1 (k_ok_some b4).2) mX35_means.2.2.1 mX35_means.2.2.2.2.1 (Nat.le_of_ble_eq_true rfl) (Nat.le_of_ble_eq_true rfl) (fun q hq => pX35_means (by omega) hq) (fun q5 hf => ?_)
      refine w_if_ne 84 dX35_makeName_21 (by decide) (fun c6 => ?_) (fun c6 => ?_)
      · replace hf := (if_pos (show ¬ q5.1 = 0 from c6)).symm.trans hf
        exact (pX35_makeName_b84 hd hdr hsE hf).to ⟨rfl, rfl, trivial⟩
      · replace hf := (if_neg (show ¬ (¬ q5.1 = 0) from (fun z => z c6))).symm.trans hf
        refine w_iload_n dX35_makeName_24 rfl rfl ?_
        refine x_cnI hf (e_stS (Yc := YX35_isCharacter) (av := [.int l2]) (st := []) dX35_makeName_25 q5127 mX35_isCharacter) mX35_isCharacter.2.2.1 mX35_isCharacter.2.2.2.2.1 (Nat.le_of_ble_eq_true rfl) (Nat.le_of_ble_eq_true rfl) (fun q hq => pX35_isCharacter (by omega) hq) (fun q7 hf => ?_)
        refine w_if_ne 40 dX35_makeName_28 (by decide) (fun c8 => ?_) (fun c8 => ?_)
        · replace hf := (if_pos (show ¬ q7.1 = 0 from c8)).symm.trans hf
          refine w_iload_n dX35_makeName_40 rfl rfl ?_
          refine w_bipush dX35_makeName_41 (v := 40) (by decide) ?_
          refine w_icmp_ne 54 dX35_makeName_43 (by decide) (fun c9 => ?_) (fun c9 => ?_)
          · replace hf := (if_pos (show ¬ l1 = (40 : Int32) from c9)).symm.trans hf
            refine w_aload_n dX35_makeName_54 rfl rfl ?_
            obtain ⟨a10, b11, hf⟩ := Option.bind_eq_some_iff.mp hf
            refine GX35_61 b11 dX35_makeName_55 rfl ?_
            refine w_bipush dX35_makeName_58 (v := 41) (by decide) ?_
            refine w_aload_n dX35_makeName_60 rfl rfl ?_
            obtain ⟨x12, b13, hf⟩ := Option.bind_eq_some_iff.mp hf
            refine GX35_353 b13 dX35_makeName_61 rfl ?_
            refine w_imul dX35_makeName_64 ?_
            refine w_iload_n dX35_makeName_65 rfl rfl ?_
            refine w_iadd dX35_makeName_66 ?_
            refine w_iload_n dX35_makeName_67 rfl rfl ?_
            refine w_sipush dX35_makeName_68 (v := 256) (by decide) ?_
            refine w_irem dX35_makeName_71 (by decide) ?_
            obtain ⟨h14, b15, hf⟩ := Option.bind_eq_some_iff.mp hf
            refine x_qI b15 dX35_makeName_72 ?_
            refine w_iinc dX35_makeName_73 (v := (l1 + (1 : Int32))) rfl rfl (by decide) (ls' := [some (.ref l0), some (.int (l1 + (1 : Int32))), some (.int l2), none]) rfl ?_
            exact (pX35_makeName_b76 hd hdr hsE ih hf).to ⟨rfl, rfl, trivial⟩
          · replace hf := (if_neg (show ¬ (¬ l1 = (40 : Int32)) from (fun z => z c9))).symm.trans hf
            refine w_aload_n dX35_makeName_46 rfl rfl ?_
            refine w_iconst dX35_makeName_47 (v := 2) (by decide) ?_
            obtain ⟨_, b16, hf⟩ := Option.bind_eq_some_iff.mp hf
            refine x_cnV hf (e_stV (Yc := YX35_fail) (ci := 34) (av := [.int (2 : Int32)]) (st := []) dX35_makeName_48 q5109 mX35_fail rfl (k_ok_some b16).1 (k_ok_some b16).2) mX35_fail.2.2.1 mX35_fail.2.2.2.2.1 (Nat.le_of_ble_eq_true rfl) (Nat.le_of_ble_eq_true rfl) (fun q hq => pX35_fail (by omega) hq) (fun q17 hf => ?_)
            refine w_goto 76 dX35_makeName_51 (by decide) ?_
            exact (pX35_makeName_b76 hd hdr hsE ih hf).to ⟨rfl, rfl, trivial⟩
        · replace hf := (if_neg (show ¬ (¬ q7.1 = 0) from (fun z => z c8))).symm.trans hf
          refine w_aload_n dX35_makeName_31 rfl rfl ?_
          refine w_bipush dX35_makeName_32 (v := 6) (by decide) ?_
          obtain ⟨_, b18, hf⟩ := Option.bind_eq_some_iff.mp hf
          refine x_cnV hf (e_stV (Yc := YX35_fail) (ci := 34) (av := [.int (6 : Int32)]) (st := []) dX35_makeName_34 q5109 mX35_fail rfl (k_ok_some b18).1 (k_ok_some b18).2) mX35_fail.2.2.1 mX35_fail.2.2.2.2.1 (Nat.le_of_ble_eq_true rfl) (Nat.le_of_ble_eq_true rfl) (fun q hq => pX35_fail (by omega) hq) (fun q19 hf => ?_)
          refine w_goto 76 dX35_makeName_37 (by decide) ?_
          exact (pX35_makeName_b76 hd hdr hsE ih hf).to ⟨rfl, rfl, trivial⟩
def fX35_makeName (N : Nat) (sE : Nat → Int32 → eH → Option (Unit × eH)) (this : Nat) (h : eH) : Option (Unit × eH) :=
  (k_ok 34 h this).bind fun _ =>
  (fX35_needExpanded N sE this h).bind fun q2 =>
  fX35_makeName_b7 N sE N this (0 : Int32) q2.1 q2.2
theorem pX35_makeName {w : eW} {d : Nat} {dr : Nat} (hd : dr + 7 ≤ d) (hdr : 12 ≤ dr) {N : Nat} {sE : Nat → Int32 → eH → Option (Unit × eH)} (hsE : ∀ a t0 h q, sE a t0 h = some q → wm w dr YX35_expand [.ref a, .int t0] h (e_is (e_rn c_V q))) {this : Nat} {h : eH} {q} (hf : fX35_makeName N sE this h = some q) : wm w d YX35_makeName [.ref this] h (e_is (e_rn c_V q)) := by
  obtain ⟨d, rfl⟩ : ∃ e, d = e + 1 := ⟨d - 1, by omega⟩
  show wp w (d + 1) YX35_makeName 0 [some (.ref this), none, none, none] [] h _
  unfold fX35_makeName at hf
  refine w_iconst dX35_makeName_0 (v := 0) (by decide) ?_
  refine w_istore_n dX35_makeName_1 rfl (by decide) (ls' := [some (.ref this), some (.int (0 : Int32)), none, none]) rfl ?_
  refine w_aload_n dX35_makeName_2 rfl rfl ?_
  obtain ⟨_, b1, hf⟩ := Option.bind_eq_some_iff.mp hf
  refine x_cnI hf (e_stV (Yc := YX35_needExpanded) (ci := 34) (av := []) (st := []) dX35_makeName_3 q5193 mX35_needExpanded rfl (k_ok_some b1).1 (k_ok_some b1).2) mX35_needExpanded.2.2.1 mX35_needExpanded.2.2.2.2.1 (Nat.le_of_ble_eq_true rfl) (Nat.le_of_ble_eq_true rfl) (fun q hq => pX35_needExpanded (by omega) hdr hsE hq) (fun q2 hf => ?_)
  refine w_istore_n dX35_makeName_6 rfl (by decide) (ls' := [some (.ref this), some (.int (0 : Int32)), some (.int q2.1), none]) rfl ?_
  exact (pX35_makeName_b7 hd hdr hsE N _ _ _ _ _ hf).to ⟨rfl, rfl, rfl, trivial⟩
abbrev cX35_putOther : ByteArray := prog_37_method_46_code
def yX35_putOther : MethodName := ⟨RX35, "putOther", "(I)V"⟩
def YX35_putOther : eY := (yX35_putOther, cX35_putOther, 2, none, [])
theorem mX35_putOther : e_mv YX35_putOther RX35 1 := ⟨q5215, qs266, q5216, by decide, by decide +kernel, (e_sig (by decide +kernel))⟩
theorem dX35_putOther_0 : decode cX35_putOther 0 = .ok (.aload_n 0, 1) := dc_42 (by decide +kernel)
theorem dX35_putOther_1 : decode cX35_putOther 1 = .ok (.iload_n 1, 1) := dc_27 (by decide +kernel)
theorem dX35_putOther_2 : decode cX35_putOther 2 = .ok (.bipush 32, 2) := dc_16 (a := 32) (v := 32) (by decide +kernel)
theorem dX35_putOther_4 : decode cX35_putOther 4 = .ok (.if_icmp .ne 9, 3) := dc_160 (a := 0) (b := 9) (v := 9) (by decide +kernel)
theorem dX35_putOther_7 : decode cX35_putOther 7 = .ok (.sipush 2592, 3) := dc_17 (a := 10) (b := 32) (v := 2592) (by decide +kernel)
theorem dX35_putOther_10 : decode cX35_putOther 10 = .ok (.goto 8, 3) := dc_167 (a := 0) (b := 8) (v := 8) (by decide +kernel)
theorem dX35_putOther_13 : decode cX35_putOther 13 = .ok (.sipush 3072, 3) := dc_17 (a := 12) (b := 0) (v := 3072) (by decide +kernel)
theorem dX35_putOther_16 : decode cX35_putOther 16 = .ok (.iload_n 1, 1) := dc_27 (by decide +kernel)
theorem dX35_putOther_17 : decode cX35_putOther 17 = .ok (.iadd, 1) := dc_96 (by decide +kernel)
theorem dX35_putOther_18 : decode cX35_putOther 18 = .ok (.invokevirtual 509, 3) := dc_182 (a := 1) (b := 253) (n := 509) (by decide +kernel)
theorem dX35_putOther_21 : decode cX35_putOther 21 = .ok (.return_, 1) := dc_177 (by decide +kernel)
def fX35_putOther_b18 (s0 : Nat) (s1 : Int32) (h : eH) : Option (Unit × eH) :=
  (k_ok 34 h s0).bind fun _ =>
  (fX35_put s0 s1 h).bind fun q2 =>
  some ((), q2.2)
theorem pX35_putOther_b18 {w : eW} {d : Nat} (hd : 1 ≤ d + 1) {s0 : Nat} {s1 : Int32} {h : eH} {q} (hf : fX35_putOther_b18 s0 s1 h = some q) : wp w (d + 1) YX35_putOther 18 [none, none] [.int s1, .ref s0] h (e_is (e_rn c_V q)) := by
  unfold fX35_putOther_b18 at hf
  obtain ⟨_, b1, hf⟩ := Option.bind_eq_some_iff.mp hf
  refine x_cnV hf (e_stV (Yc := YX35_put) (ci := 34) (av := [.int s1]) (st := []) dX35_putOther_18 q5181 mX35_put rfl (k_ok_some b1).1 (k_ok_some b1).2) mX35_put.2.2.1 mX35_put.2.2.2.2.1 (Nat.le_of_ble_eq_true rfl) (Nat.le_of_ble_eq_true rfl) (fun q hq => pX35_put (by omega) hq) (fun q2 hf => ?_)
  cases hf
  exact w_vret dX35_putOther_21 rfl rfl
def fX35_putOther (this : Nat) (p0 : Int32) (h : eH) : Option (Unit × eH) :=
  if ¬ p0 = (32 : Int32) then
    fX35_putOther_b18 this ((3072 : Int32) + p0) h
  else
    fX35_putOther_b18 this (2592 : Int32) h
theorem pX35_putOther {w : eW} {d : Nat} (hd : 1 ≤ d) {this : Nat} {p0 : Int32} {h : eH} {q} (hf : fX35_putOther this p0 h = some q) : wm w d YX35_putOther [.ref this, .int p0] h (e_is (e_rn c_V q)) := by
  obtain ⟨d, rfl⟩ : ∃ e, d = e + 1 := ⟨d - 1, by omega⟩
  show wp w (d + 1) YX35_putOther 0 [some (.ref this), some (.int p0)] [] h _
  unfold fX35_putOther at hf
  refine w_aload_n dX35_putOther_0 rfl rfl ?_
  refine w_iload_n dX35_putOther_1 rfl rfl ?_
  refine w_bipush dX35_putOther_2 (v := 32) (by decide) ?_
  refine w_icmp_ne 13 dX35_putOther_4 (by decide) (fun c1 => ?_) (fun c1 => ?_)
  · replace hf := (if_pos (show ¬ p0 = (32 : Int32) from c1)).symm.trans hf
    refine w_sipush dX35_putOther_13 (v := 3072) (by decide) ?_
    refine w_iload_n dX35_putOther_16 rfl rfl ?_
    refine w_iadd dX35_putOther_17 ?_
    exact (pX35_putOther_b18 hd hf).to trivial
  · replace hf := (if_neg (show ¬ (¬ p0 = (32 : Int32)) from (fun z => z c1))).symm.trans hf
    refine w_sipush dX35_putOther_7 (v := 2592) (by decide) ?_
    refine w_goto 18 dX35_putOther_10 (by decide) ?_
    exact (pX35_putOther_b18 hd hf).to trivial
abbrev cX35_spellOut : ByteArray := prog_37_method_47_code
def yX35_spellOut : MethodName := ⟨RX35, "spellOut", "(I)V"⟩
def YX35_spellOut : eY := (yX35_spellOut, cX35_spellOut, 5, none, [])
theorem mX35_spellOut : e_mv YX35_spellOut RX35 1 := ⟨q5211, qs265, q5212, by decide, by decide +kernel, (e_sig (by decide +kernel))⟩
theorem dX35_spellOut_0 : decode cX35_spellOut 0 = .ok (.aload_n 0, 1) := dc_42 (by decide +kernel)
theorem dX35_spellOut_1 : decode cX35_spellOut 1 = .ok (.getfield 321, 3) := dc_180 (a := 1) (b := 65) (n := 321) (by decide +kernel)
theorem dX35_spellOut_4 : decode cX35_spellOut 4 = .ok (.ifCond .le 4, 3) := dc_158 (a := 0) (b := 4) (v := 4) (by decide +kernel)
theorem dX35_spellOut_7 : decode cX35_spellOut 7 = .ok (.return_, 1) := dc_177 (by decide +kernel)
theorem dX35_spellOut_8 : decode cX35_spellOut 8 = .ok (.iload_n 1, 1) := dc_27 (by decide +kernel)
theorem dX35_spellOut_9 : decode cX35_spellOut 9 = .ok (.invokestatic 464, 3) := dc_184 (a := 1) (b := 208) (n := 464) (by decide +kernel)
theorem dX35_spellOut_12 : decode cX35_spellOut 12 = .ok (.istore_n 2, 1) := dc_61 (by decide +kernel)
theorem dX35_spellOut_13 : decode cX35_spellOut 13 = .ok (.iload_n 2, 1) := dc_28 (by decide +kernel)
theorem dX35_spellOut_14 : decode cX35_spellOut 14 = .ok (.ldc 7, 2) := dc_18 (a := 7) (by decide +kernel)
theorem dX35_spellOut_16 : decode cX35_spellOut 16 = .ok (.if_icmp .lt 10, 3) := dc_161 (a := 0) (b := 10) (v := 10) (by decide +kernel)
theorem dX35_spellOut_19 : decode cX35_spellOut 19 = .ok (.iload_n 2, 1) := dc_28 (by decide +kernel)
theorem dX35_spellOut_20 : decode cX35_spellOut 20 = .ok (.ldc_w 452, 3) := dc_19 (a := 1) (b := 196) (n := 452) (by decide +kernel)
theorem dX35_spellOut_23 : decode cX35_spellOut 23 = .ok (.if_icmp .lt 13, 3) := dc_161 (a := 0) (b := 13) (v := 13) (by decide +kernel)
theorem dX35_spellOut_26 : decode cX35_spellOut 26 = .ok (.aload_n 0, 1) := dc_42 (by decide +kernel)
theorem dX35_spellOut_27 : decode cX35_spellOut 27 = .ok (.iload_n 2, 1) := dc_28 (by decide +kernel)
theorem dX35_spellOut_28 : decode cX35_spellOut 28 = .ok (.sipush 256, 3) := dc_17 (a := 1) (b := 0) (v := 256) (by decide +kernel)
theorem dX35_spellOut_31 : decode cX35_spellOut 31 = .ok (.irem, 1) := dc_112 (by decide +kernel)
theorem dX35_spellOut_32 : decode cX35_spellOut 32 = .ok (.invokevirtual 551, 3) := dc_182 (a := 2) (b := 39) (n := 551) (by decide +kernel)
theorem dX35_spellOut_35 : decode cX35_spellOut 35 = .ok (.return_, 1) := dc_177 (by decide +kernel)
theorem dX35_spellOut_36 : decode cX35_spellOut 36 = .ok (.iload_n 2, 1) := dc_28 (by decide +kernel)
theorem dX35_spellOut_37 : decode cX35_spellOut 37 = .ok (.ldc 7, 2) := dc_18 (a := 7) (by decide +kernel)
theorem dX35_spellOut_39 : decode cX35_spellOut 39 = .ok (.isub, 1) := dc_100 (by decide +kernel)
theorem dX35_spellOut_40 : decode cX35_spellOut 40 = .ok (.istore_n 3, 1) := dc_62 (by decide +kernel)
theorem dX35_spellOut_41 : decode cX35_spellOut 41 = .ok (.aload_n 0, 1) := dc_42 (by decide +kernel)
theorem dX35_spellOut_42 : decode cX35_spellOut 42 = .ok (.getfield 55, 3) := dc_180 (a := 0) (b := 55) (n := 55) (by decide +kernel)
theorem dX35_spellOut_45 : decode cX35_spellOut 45 = .ok (.iload_n 3, 1) := dc_29 (by decide +kernel)
theorem dX35_spellOut_46 : decode cX35_spellOut 46 = .ok (.iaload, 1) := dc_46 (by decide +kernel)
theorem dX35_spellOut_47 : decode cX35_spellOut 47 = .ok (.iconst 1, 1) := dc_4 (by decide +kernel)
theorem dX35_spellOut_48 : decode cX35_spellOut 48 = .ok (.isub, 1) := dc_100 (by decide +kernel)
theorem dX35_spellOut_49 : decode cX35_spellOut 49 = .ok (.istore 4, 2) := dc_54 (a := 4) (by decide +kernel)
theorem dX35_spellOut_51 : decode cX35_spellOut 51 = .ok (.iload 4, 2) := dc_21 (a := 4) (by decide +kernel)
theorem dX35_spellOut_53 : decode cX35_spellOut 53 = .ok (.ifCond .lt 29, 3) := dc_155 (a := 0) (b := 29) (v := 29) (by decide +kernel)
theorem dX35_spellOut_56 : decode cX35_spellOut 56 = .ok (.aload_n 0, 1) := dc_42 (by decide +kernel)
theorem dX35_spellOut_57 : decode cX35_spellOut 57 = .ok (.aload_n 0, 1) := dc_42 (by decide +kernel)
theorem dX35_spellOut_58 : decode cX35_spellOut 58 = .ok (.getfield 52, 3) := dc_180 (a := 0) (b := 52) (n := 52) (by decide +kernel)
theorem dX35_spellOut_61 : decode cX35_spellOut 61 = .ok (.bipush 40, 2) := dc_16 (a := 40) (v := 40) (by decide +kernel)
theorem dX35_spellOut_63 : decode cX35_spellOut 63 = .ok (.iload_n 3, 1) := dc_29 (by decide +kernel)
theorem dX35_spellOut_64 : decode cX35_spellOut 64 = .ok (.imul, 1) := dc_104 (by decide +kernel)
theorem dX35_spellOut_65 : decode cX35_spellOut 65 = .ok (.iload 4, 2) := dc_21 (a := 4) (by decide +kernel)
theorem dX35_spellOut_67 : decode cX35_spellOut 67 = .ok (.iadd, 1) := dc_96 (by decide +kernel)
theorem dX35_spellOut_68 : decode cX35_spellOut 68 = .ok (.baload, 1) := dc_51 (by decide +kernel)
theorem dX35_spellOut_69 : decode cX35_spellOut 69 = .ok (.sipush 255, 3) := dc_17 (a := 0) (b := 255) (v := 255) (by decide +kernel)
theorem dX35_spellOut_72 : decode cX35_spellOut 72 = .ok (.iand, 1) := dc_126 (by decide +kernel)
theorem dX35_spellOut_73 : decode cX35_spellOut 73 = .ok (.invokevirtual 551, 3) := dc_182 (a := 2) (b := 39) (n := 551) (by decide +kernel)
theorem dX35_spellOut_76 : decode cX35_spellOut 76 = .ok (.iinc 4 (-1), 3) := dc_132 (a := 4) (b := 255) (v := -1) (by decide +kernel)
theorem dX35_spellOut_79 : decode cX35_spellOut 79 = .ok (.goto (-28), 3) := dc_167 (a := 255) (b := 228) (v := -28) (by decide +kernel)
theorem dX35_spellOut_82 : decode cX35_spellOut 82 = .ok (.aload_n 0, 1) := dc_42 (by decide +kernel)
theorem dX35_spellOut_83 : decode cX35_spellOut 83 = .ok (.bipush 92, 2) := dc_16 (a := 92) (v := 92) (by decide +kernel)
theorem dX35_spellOut_85 : decode cX35_spellOut 85 = .ok (.invokevirtual 551, 3) := dc_182 (a := 2) (b := 39) (n := 551) (by decide +kernel)
theorem dX35_spellOut_88 : decode cX35_spellOut 88 = .ok (.return_, 1) := dc_177 (by decide +kernel)
def fX35_spellOut_b26 (N : Nat) (l0 : Nat) (l2 : Int32) (h : eH) : Option (Unit × eH) :=
  (k_ok 34 h l0).bind fun _ =>
  (fX35_putOther l0 (l2 - l2 / (256 : Int32) * (256 : Int32)) h).bind fun q2 =>
  some ((), q2.2)
theorem pX35_spellOut_b26 {w : eW} {d : Nat} (hd : 2 ≤ d + 1) {N : Nat} {l0 : Nat} {l2 : Int32} {h : eH} {q} (hf : fX35_spellOut_b26 N l0 l2 h = some q) : wp w (d + 1) YX35_spellOut 26 [some (.ref l0), none, some (.int l2), none, none] [] h (e_is (e_rn c_V q)) := by
  unfold fX35_spellOut_b26 at hf
  refine w_aload_n dX35_spellOut_26 rfl rfl ?_
  refine w_iload_n dX35_spellOut_27 rfl rfl ?_
  refine w_sipush dX35_spellOut_28 (v := 256) (by decide) ?_
  refine w_irem dX35_spellOut_31 (by decide) ?_
  obtain ⟨_, b1, hf⟩ := Option.bind_eq_some_iff.mp hf
  refine x_cnV hf (e_stV (Yc := YX35_putOther) (ci := 34) (av := [.int (l2 - l2 / (256 : Int32) * (256 : Int32))]) (st := []) dX35_spellOut_32 q5213 mX35_putOther rfl (k_ok_some b1).1 (k_ok_some b1).2) mX35_putOther.2.2.1 mX35_putOther.2.2.2.2.1 (Nat.le_of_ble_eq_true rfl) (Nat.le_of_ble_eq_true rfl) (fun q hq => pX35_putOther (by omega) hq) (fun q2 hf => ?_)
  cases hf
  exact w_vret dX35_spellOut_35 rfl rfl
def fX35_spellOut_b51 (N : Nat) : Nat → Nat → Int32 → Int32 → eH → Option (Unit × eH)
  | 0, _, _, _, _ => none
  | n + 1, l0, l3, l4, h =>
    if l4 < 0 then
      (k_ok 34 h l0).bind fun _ =>
      (fX35_putOther l0 (92 : Int32) h).bind fun q3 =>
      some ((), q3.2)
    else
      (g_A 34 h l0 16).bind fun a4 =>
      (r_I 102 h a4 (((40 : Int32) * l3) + l4)).bind fun x6 =>
      (k_ok 34 h l0).bind fun _ =>
      (fX35_putOther l0 (x6 &&& (255 : Int32)) h).bind fun q9 =>
      fX35_spellOut_b51 N n l0 l3 (l4 + (-1 : Int32)) q9.2
theorem pX35_spellOut_b51 {w : eW} {d : Nat} (hd : 2 ≤ d + 1) {N : Nat} : ∀ (n : Nat) l0 l3 l4 h q, fX35_spellOut_b51 N n l0 l3 l4 h = some q → wp w (d + 1) YX35_spellOut 51 [some (.ref l0), none, none, some (.int l3), some (.int l4)] [] h (e_is (e_rn c_V q)) := by
  intro n
  induction n with
  | zero => intro l0 l3 l4 h q hf; simp [fX35_spellOut_b51] at hf
  | succ n ih =>
    intro l0 l3 l4 h q hf
    rw [fX35_spellOut_b51] at hf
    refine w_iload dX35_spellOut_51 rfl ?_
    refine w_if_lt 82 dX35_spellOut_53 (by decide) (fun c1 => ?_) (fun c1 => ?_)
    · replace hf := (if_pos (show l4 < 0 from c1)).symm.trans hf
      refine w_aload_n dX35_spellOut_82 rfl rfl ?_
      refine w_bipush dX35_spellOut_83 (v := 92) (by decide) ?_
      obtain ⟨_, b2, hf⟩ := Option.bind_eq_some_iff.mp hf
      refine x_cnV hf (e_stV (Yc := YX35_putOther) (ci := 34) (av := [.int (92 : Int32)]) (st := []) dX35_spellOut_85 q5213 mX35_putOther rfl (k_ok_some b2).1 (k_ok_some b2).2) mX35_putOther.2.2.1 mX35_putOther.2.2.2.2.1 (Nat.le_of_ble_eq_true rfl) (Nat.le_of_ble_eq_true rfl) (fun q hq => pX35_putOther (by omega) hq) (fun q3 hf => ?_)
      cases hf
      exact w_vret dX35_spellOut_88 rfl rfl
    · replace hf := (if_neg (show ¬ (l4 < 0) from c1)).symm.trans hf
      refine w_aload_n dX35_spellOut_56 rfl rfl ?_
      refine w_aload_n dX35_spellOut_57 rfl rfl ?_
      obtain ⟨a4, b5, hf⟩ := Option.bind_eq_some_iff.mp hf
      refine GX35_52 b5 dX35_spellOut_58 rfl ?_
      refine w_bipush dX35_spellOut_61 (v := 40) (by decide) ?_
      refine w_iload_n dX35_spellOut_63 rfl rfl ?_
      refine w_imul dX35_spellOut_64 ?_
      refine w_iload dX35_spellOut_65 rfl ?_
      refine w_iadd dX35_spellOut_67 ?_
      obtain ⟨x6, b7, hf⟩ := Option.bind_eq_some_iff.mp hf
      refine x_rB b7 dX35_spellOut_68 ?_
      refine w_sipush dX35_spellOut_69 (v := 255) (by decide) ?_
      refine w_iand dX35_spellOut_72 ?_
      obtain ⟨_, b8, hf⟩ := Option.bind_eq_some_iff.mp hf
      refine x_cnV hf (e_stV (Yc := YX35_putOther) (ci := 34) (av := [.int (x6 &&& (255 : Int32))]) (st := []) dX35_spellOut_73 q5213 mX35_putOther rfl (k_ok_some b8).1 (k_ok_some b8).2) mX35_putOther.2.2.1 mX35_putOther.2.2.2.2.1 (Nat.le_of_ble_eq_true rfl) (Nat.le_of_ble_eq_true rfl) (fun q hq => pX35_putOther (by omega) hq) (fun q9 hf => ?_)
      refine w_iinc dX35_spellOut_76 (v := (l4 + (-1 : Int32))) rfl rfl (by decide) (ls' := [some (.ref l0), none, none, some (.int l3), some (.int (l4 + (-1 : Int32)))]) rfl ?_
      refine w_goto 51 dX35_spellOut_79 (by decide) ?_
      exact (ih _ _ _ _ _ hf).to ⟨rfl, rfl, rfl, trivial⟩
def fX35_spellOut (N : Nat) (this : Nat) (p0 : Int32) (h : eH) : Option (Unit × eH) :=
  (g_I 34 h this 46).bind fun x1 =>
  if x1 ≤ 0 then
    (fX35_bare p0 h).bind fun q4 =>
    if q4.1 < (65536 : Int32) then
      fX35_spellOut_b26 N this q4.1 q4.2
    else
      if q4.1 < (131072 : Int32) then
        (g_A 34 q4.2 this 17).bind fun a7 =>
        (r_I 100 q4.2 a7 (q4.1 - (65536 : Int32))).bind fun x9 =>
        fX35_spellOut_b51 N N this (q4.1 - (65536 : Int32)) (x9 - (1 : Int32)) q4.2
      else
        fX35_spellOut_b26 N this q4.1 q4.2
  else
    some ((), h)
theorem pX35_spellOut {w : eW} {d : Nat} (hd : 2 ≤ d) {N : Nat} {this : Nat} {p0 : Int32} {h : eH} {q} (hf : fX35_spellOut N this p0 h = some q) : wm w d YX35_spellOut [.ref this, .int p0] h (e_is (e_rn c_V q)) := by
  obtain ⟨d, rfl⟩ : ∃ e, d = e + 1 := ⟨d - 1, by omega⟩
  show wp w (d + 1) YX35_spellOut 0 [some (.ref this), some (.int p0), none, none, none] [] h _
  unfold fX35_spellOut at hf
  refine w_aload_n dX35_spellOut_0 rfl rfl ?_
  obtain ⟨x1, b2, hf⟩ := Option.bind_eq_some_iff.mp hf
  refine GX35_321 b2 dX35_spellOut_1 rfl ?_
  refine w_if_le 8 dX35_spellOut_4 (by decide) (fun c3 => ?_) (fun c3 => ?_)
  · replace hf := (if_pos (show x1 ≤ 0 from c3)).symm.trans hf
    refine w_iload_n dX35_spellOut_8 rfl rfl ?_
    refine x_cnI hf (e_stS (Yc := YX35_bare) (av := [.int p0]) (st := []) dX35_spellOut_9 q5139 mX35_bare) mX35_bare.2.2.1 mX35_bare.2.2.2.2.1 (Nat.le_of_ble_eq_true rfl) (Nat.le_of_ble_eq_true rfl) (fun q hq => pX35_bare (by omega) hq) (fun q4 hf => ?_)
    refine w_istore_n dX35_spellOut_12 rfl (by decide) (ls' := [some (.ref this), some (.int p0), some (.int q4.1), none, none]) rfl ?_
    refine w_iload_n dX35_spellOut_13 rfl rfl ?_
    refine w_ldc dX35_spellOut_14 q4119 ?_
    refine w_icmp_lt 26 dX35_spellOut_16 (by decide) (fun c5 => ?_) (fun c5 => ?_)
    · replace hf := (if_pos (show q4.1 < (65536 : Int32) from c5)).symm.trans hf
      exact (pX35_spellOut_b26 hd hf).to ⟨rfl, rfl, trivial⟩
    · replace hf := (if_neg (show ¬ (q4.1 < (65536 : Int32)) from c5)).symm.trans hf
      refine w_iload_n dX35_spellOut_19 rfl rfl ?_
      refine w_ldc_w dX35_spellOut_20 q5118 ?_
      refine w_icmp_lt 36 dX35_spellOut_23 (by decide) (fun c6 => ?_) (fun c6 => ?_)
      · replace hf := (if_pos (show q4.1 < (131072 : Int32) from c6)).symm.trans hf
        refine w_iload_n dX35_spellOut_36 rfl rfl ?_
        refine w_ldc dX35_spellOut_37 q4119 ?_
        refine w_isub dX35_spellOut_39 ?_
        refine w_istore_n dX35_spellOut_40 rfl (by decide) (ls' := [some (.ref this), some (.int p0), some (.int q4.1), some (.int (q4.1 - (65536 : Int32))), none]) rfl ?_
        refine w_aload_n dX35_spellOut_41 rfl rfl ?_
        obtain ⟨a7, b8, hf⟩ := Option.bind_eq_some_iff.mp hf
        refine GX35_55 b8 dX35_spellOut_42 rfl ?_
        refine w_iload_n dX35_spellOut_45 rfl rfl ?_
        obtain ⟨x9, b10, hf⟩ := Option.bind_eq_some_iff.mp hf
        refine x_rI b10 dX35_spellOut_46 ?_
        refine w_iconst dX35_spellOut_47 (v := 1) (by decide) ?_
        refine w_isub dX35_spellOut_48 ?_
        refine w_istore dX35_spellOut_49 (by decide) (ls' := [some (.ref this), some (.int p0), some (.int q4.1), some (.int (q4.1 - (65536 : Int32))), some (.int (x9 - (1 : Int32)))]) rfl ?_
        exact (pX35_spellOut_b51 hd N _ _ _ _ _ hf).to ⟨rfl, rfl, rfl, trivial⟩
      · replace hf := (if_neg (show ¬ (q4.1 < (131072 : Int32)) from c6)).symm.trans hf
        exact (pX35_spellOut_b26 hd hf).to ⟨rfl, rfl, trivial⟩
  · replace hf := (if_neg (show ¬ (x1 ≤ 0) from c3)).symm.trans hf
    cases hf
    exact w_vret dX35_spellOut_7 rfl rfl
abbrev cX35_putDigits : ByteArray := prog_37_method_48_code
def yX35_putDigits : MethodName := ⟨RX35, "putDigits", "(I)V"⟩
def YX35_putDigits : eY := (yX35_putDigits, cX35_putDigits, 4, none, [])
theorem mX35_putDigits : e_mv YX35_putDigits RX35 1 := ⟨q5302, qs282, q5303, by decide, by decide +kernel, (e_sig (by decide +kernel))⟩
theorem dX35_putDigits_0 : decode cX35_putDigits 0 = .ok (.iload_n 1, 1) := dc_27 (by decide +kernel)
theorem dX35_putDigits_1 : decode cX35_putDigits 1 = .ok (.ifCond .ge 9, 3) := dc_156 (a := 0) (b := 9) (v := 9) (by decide +kernel)
theorem dX35_putDigits_4 : decode cX35_putDigits 4 = .ok (.iload_n 1, 1) := dc_27 (by decide +kernel)
theorem dX35_putDigits_5 : decode cX35_putDigits 5 = .ok (.i2l, 1) := dc_133 (by decide +kernel)
theorem dX35_putDigits_6 : decode cX35_putDigits 6 = .ok (.lneg, 1) := dc_117 (by decide +kernel)
theorem dX35_putDigits_7 : decode cX35_putDigits 7 = .ok (.goto 5, 3) := dc_167 (a := 0) (b := 5) (v := 5) (by decide +kernel)
theorem dX35_putDigits_10 : decode cX35_putDigits 10 = .ok (.iload_n 1, 1) := dc_27 (by decide +kernel)
theorem dX35_putDigits_11 : decode cX35_putDigits 11 = .ok (.i2l, 1) := dc_133 (by decide +kernel)
theorem dX35_putDigits_12 : decode cX35_putDigits 12 = .ok (.lstore_n 2, 1) := dc_65 (by decide +kernel)
theorem dX35_putDigits_13 : decode cX35_putDigits 13 = .ok (.aload_n 0, 1) := dc_42 (by decide +kernel)
theorem dX35_putDigits_14 : decode cX35_putDigits 14 = .ok (.ldc2_w 560, 3) := dc_20 (a := 2) (b := 48) (n := 560) (by decide +kernel)
theorem dX35_putDigits_17 : decode cX35_putDigits 17 = .ok (.lload_n 2, 1) := dc_32 (by decide +kernel)
theorem dX35_putDigits_18 : decode cX35_putDigits 18 = .ok (.ldc2_w 562, 3) := dc_20 (a := 2) (b := 50) (n := 562) (by decide +kernel)
theorem dX35_putDigits_21 : decode cX35_putDigits 21 = .ok (.lrem, 1) := dc_113 (by decide +kernel)
theorem dX35_putDigits_22 : decode cX35_putDigits 22 = .ok (.ladd, 1) := dc_97 (by decide +kernel)
theorem dX35_putDigits_23 : decode cX35_putDigits 23 = .ok (.l2i, 1) := dc_136 (by decide +kernel)
theorem dX35_putDigits_24 : decode cX35_putDigits 24 = .ok (.invokevirtual 551, 3) := dc_182 (a := 2) (b := 39) (n := 551) (by decide +kernel)
theorem dX35_putDigits_27 : decode cX35_putDigits 27 = .ok (.lload_n 2, 1) := dc_32 (by decide +kernel)
theorem dX35_putDigits_28 : decode cX35_putDigits 28 = .ok (.ldc2_w 562, 3) := dc_20 (a := 2) (b := 50) (n := 562) (by decide +kernel)
theorem dX35_putDigits_31 : decode cX35_putDigits 31 = .ok (.ldiv, 1) := dc_109 (by decide +kernel)
theorem dX35_putDigits_32 : decode cX35_putDigits 32 = .ok (.lstore_n 2, 1) := dc_65 (by decide +kernel)
theorem dX35_putDigits_33 : decode cX35_putDigits 33 = .ok (.lload_n 2, 1) := dc_32 (by decide +kernel)
theorem dX35_putDigits_34 : decode cX35_putDigits 34 = .ok (.lconst 0, 1) := dc_9 (by decide +kernel)
theorem dX35_putDigits_35 : decode cX35_putDigits 35 = .ok (.lcmp, 1) := dc_148 (by decide +kernel)
theorem dX35_putDigits_36 : decode cX35_putDigits 36 = .ok (.ifCond .le 26, 3) := dc_158 (a := 0) (b := 26) (v := 26) (by decide +kernel)
theorem dX35_putDigits_39 : decode cX35_putDigits 39 = .ok (.aload_n 0, 1) := dc_42 (by decide +kernel)
theorem dX35_putDigits_40 : decode cX35_putDigits 40 = .ok (.ldc2_w 560, 3) := dc_20 (a := 2) (b := 48) (n := 560) (by decide +kernel)
theorem dX35_putDigits_43 : decode cX35_putDigits 43 = .ok (.lload_n 2, 1) := dc_32 (by decide +kernel)
theorem dX35_putDigits_44 : decode cX35_putDigits 44 = .ok (.ldc2_w 562, 3) := dc_20 (a := 2) (b := 50) (n := 562) (by decide +kernel)
theorem dX35_putDigits_47 : decode cX35_putDigits 47 = .ok (.lrem, 1) := dc_113 (by decide +kernel)
theorem dX35_putDigits_48 : decode cX35_putDigits 48 = .ok (.ladd, 1) := dc_97 (by decide +kernel)
theorem dX35_putDigits_49 : decode cX35_putDigits 49 = .ok (.l2i, 1) := dc_136 (by decide +kernel)
theorem dX35_putDigits_50 : decode cX35_putDigits 50 = .ok (.invokevirtual 551, 3) := dc_182 (a := 2) (b := 39) (n := 551) (by decide +kernel)
theorem dX35_putDigits_53 : decode cX35_putDigits 53 = .ok (.lload_n 2, 1) := dc_32 (by decide +kernel)
theorem dX35_putDigits_54 : decode cX35_putDigits 54 = .ok (.ldc2_w 562, 3) := dc_20 (a := 2) (b := 50) (n := 562) (by decide +kernel)
theorem dX35_putDigits_57 : decode cX35_putDigits 57 = .ok (.ldiv, 1) := dc_109 (by decide +kernel)
theorem dX35_putDigits_58 : decode cX35_putDigits 58 = .ok (.lstore_n 2, 1) := dc_65 (by decide +kernel)
theorem dX35_putDigits_59 : decode cX35_putDigits 59 = .ok (.goto (-26), 3) := dc_167 (a := 255) (b := 230) (v := -26) (by decide +kernel)
theorem dX35_putDigits_62 : decode cX35_putDigits 62 = .ok (.iload_n 1, 1) := dc_27 (by decide +kernel)
theorem dX35_putDigits_63 : decode cX35_putDigits 63 = .ok (.ifCond .ge 9, 3) := dc_156 (a := 0) (b := 9) (v := 9) (by decide +kernel)
theorem dX35_putDigits_66 : decode cX35_putDigits 66 = .ok (.aload_n 0, 1) := dc_42 (by decide +kernel)
theorem dX35_putDigits_67 : decode cX35_putDigits 67 = .ok (.bipush 45, 2) := dc_16 (a := 45) (v := 45) (by decide +kernel)
theorem dX35_putDigits_69 : decode cX35_putDigits 69 = .ok (.invokevirtual 551, 3) := dc_182 (a := 2) (b := 39) (n := 551) (by decide +kernel)
theorem dX35_putDigits_72 : decode cX35_putDigits 72 = .ok (.return_, 1) := dc_177 (by decide +kernel)
def fX35_putDigits_b72 (N : Nat)  (h : eH) : Option (Unit × eH) :=
  some ((), h)
theorem pX35_putDigits_b72 {w : eW} {d : Nat} (hd : 2 ≤ d + 1) {N : Nat}  {h : eH} {q} (hf : fX35_putDigits_b72 N h = some q) : wp w (d + 1) YX35_putDigits 72 [none, none, none, none] [] h (e_is (e_rn c_V q)) := by
  unfold fX35_putDigits_b72 at hf
  cases hf
  exact w_vret dX35_putDigits_72 rfl rfl
def fX35_putDigits_b33 (N : Nat) : Nat → Nat → Int32 → Int64 → eH → Option (Unit × eH)
  | 0, _, _, _, _ => none
  | n + 1, l0, l1, l2, h =>
    if (lg_cmp l2 (0 : Int64)) ≤ 0 then
      if 0 ≤ l1 then
        fX35_putDigits_b72 N h
      else
        (k_ok 34 h l0).bind fun _ =>
        (fX35_putOther l0 (45 : Int32) h).bind fun q4 =>
        fX35_putDigits_b72 N q4.2
    else
      (k_ok 34 h l0).bind fun _ =>
      (fX35_putOther l0 (((48 : Int64) + (l2 - l2 / (10 : Int64) * (10 : Int64)))).toInt32 h).bind fun q6 =>
      fX35_putDigits_b33 N n l0 l1 (l2 / (10 : Int64)) q6.2
theorem pX35_putDigits_b33 {w : eW} {d : Nat} (hd : 2 ≤ d + 1) {N : Nat} : ∀ (n : Nat) l0 l1 l2 h q, fX35_putDigits_b33 N n l0 l1 l2 h = some q → wp w (d + 1) YX35_putDigits 33 [some (.ref l0), some (.int l1), some (.long l2), none] [] h (e_is (e_rn c_V q)) := by
  intro n
  induction n with
  | zero => intro l0 l1 l2 h q hf; simp [fX35_putDigits_b33] at hf
  | succ n ih =>
    intro l0 l1 l2 h q hf
    rw [fX35_putDigits_b33] at hf
    refine w_lload_n dX35_putDigits_33 rfl rfl ?_
    refine w_lconst dX35_putDigits_34 (v := 0) (by decide) ?_
    refine w_lcmp dX35_putDigits_35 ?_
    refine w_if_le 62 dX35_putDigits_36 (by decide) (fun c1 => ?_) (fun c1 => ?_)
    · replace hf := (if_pos (show (lg_cmp l2 (0 : Int64)) ≤ 0 from c1)).symm.trans hf
      refine w_iload_n dX35_putDigits_62 rfl rfl ?_
      refine w_if_ge 72 dX35_putDigits_63 (by decide) (fun c2 => ?_) (fun c2 => ?_)
      · replace hf := (if_pos (show 0 ≤ l1 from c2)).symm.trans hf
        exact (pX35_putDigits_b72 hd hf).to trivial
      · replace hf := (if_neg (show ¬ (0 ≤ l1) from c2)).symm.trans hf
        refine w_aload_n dX35_putDigits_66 rfl rfl ?_
        refine w_bipush dX35_putDigits_67 (v := 45) (by decide) ?_
        obtain ⟨_, b3, hf⟩ := Option.bind_eq_some_iff.mp hf
        refine x_cnV hf (e_stV (Yc := YX35_putOther) (ci := 34) (av := [.int (45 : Int32)]) (st := []) dX35_putDigits_69 q5213 mX35_putOther rfl (k_ok_some b3).1 (k_ok_some b3).2) mX35_putOther.2.2.1 mX35_putOther.2.2.2.2.1 (Nat.le_of_ble_eq_true rfl) (Nat.le_of_ble_eq_true rfl) (fun q hq => pX35_putOther (by omega) hq) (fun q4 hf => ?_)
        exact (pX35_putDigits_b72 hd hf).to trivial
    · replace hf := (if_neg (show ¬ ((lg_cmp l2 (0 : Int64)) ≤ 0) from c1)).symm.trans hf
      refine w_aload_n dX35_putDigits_39 rfl rfl ?_
      refine w_ldc2 dX35_putDigits_40 q5240 ?_
      refine w_lload_n dX35_putDigits_43 rfl rfl ?_
      refine w_ldc2 dX35_putDigits_44 q5239 ?_
      refine w_lrem dX35_putDigits_47 (by decide) ?_
      refine w_ladd dX35_putDigits_48 ?_
      refine w_l2i dX35_putDigits_49 ?_
      obtain ⟨_, b5, hf⟩ := Option.bind_eq_some_iff.mp hf
      refine x_cnV hf (e_stV (Yc := YX35_putOther) (ci := 34) (av := [.int (((48 : Int64) + (l2 - l2 / (10 : Int64) * (10 : Int64)))).toInt32]) (st := []) dX35_putDigits_50 q5213 mX35_putOther rfl (k_ok_some b5).1 (k_ok_some b5).2) mX35_putOther.2.2.1 mX35_putOther.2.2.2.2.1 (Nat.le_of_ble_eq_true rfl) (Nat.le_of_ble_eq_true rfl) (fun q hq => pX35_putOther (by omega) hq) (fun q6 hf => ?_)
      refine w_lload_n dX35_putDigits_53 rfl rfl ?_
      refine w_ldc2 dX35_putDigits_54 q5239 ?_
      refine w_ldiv dX35_putDigits_57 (by decide) ?_
      refine w_lstore_n dX35_putDigits_58 rfl (by decide) (ls' := [some (.ref l0), some (.int l1), some (.long (l2 / (10 : Int64))), none]) rfl ?_
      refine w_goto 33 dX35_putDigits_59 (by decide) ?_
      exact (ih _ _ _ _ _ hf).to ⟨rfl, rfl, rfl, trivial⟩
def fX35_putDigits_b12 (N : Nat) (l0 : Nat) (l1 : Int32) (s0 : Int64) (h : eH) : Option (Unit × eH) :=
  (k_ok 34 h l0).bind fun _ =>
  (fX35_putOther l0 (((48 : Int64) + (s0 - s0 / (10 : Int64) * (10 : Int64)))).toInt32 h).bind fun q2 =>
  fX35_putDigits_b33 N N l0 l1 (s0 / (10 : Int64)) q2.2
theorem pX35_putDigits_b12 {w : eW} {d : Nat} (hd : 2 ≤ d + 1) {N : Nat} {l0 : Nat} {l1 : Int32} {s0 : Int64} {h : eH} {q} (hf : fX35_putDigits_b12 N l0 l1 s0 h = some q) : wp w (d + 1) YX35_putDigits 12 [some (.ref l0), some (.int l1), none, none] [.long s0] h (e_is (e_rn c_V q)) := by
  unfold fX35_putDigits_b12 at hf
  refine w_lstore_n dX35_putDigits_12 rfl (by decide) (ls' := [some (.ref l0), some (.int l1), some (.long s0), none]) rfl ?_
  refine w_aload_n dX35_putDigits_13 rfl rfl ?_
  refine w_ldc2 dX35_putDigits_14 q5240 ?_
  refine w_lload_n dX35_putDigits_17 rfl rfl ?_
  refine w_ldc2 dX35_putDigits_18 q5239 ?_
  refine w_lrem dX35_putDigits_21 (by decide) ?_
  refine w_ladd dX35_putDigits_22 ?_
  refine w_l2i dX35_putDigits_23 ?_
  obtain ⟨_, b1, hf⟩ := Option.bind_eq_some_iff.mp hf
  refine x_cnV hf (e_stV (Yc := YX35_putOther) (ci := 34) (av := [.int (((48 : Int64) + (s0 - s0 / (10 : Int64) * (10 : Int64)))).toInt32]) (st := []) dX35_putDigits_24 q5213 mX35_putOther rfl (k_ok_some b1).1 (k_ok_some b1).2) mX35_putOther.2.2.1 mX35_putOther.2.2.2.2.1 (Nat.le_of_ble_eq_true rfl) (Nat.le_of_ble_eq_true rfl) (fun q hq => pX35_putOther (by omega) hq) (fun q2 hf => ?_)
  refine w_lload_n dX35_putDigits_27 rfl rfl ?_
  refine w_ldc2 dX35_putDigits_28 q5239 ?_
  refine w_ldiv dX35_putDigits_31 (by decide) ?_
  refine w_lstore_n dX35_putDigits_32 rfl (by decide) (ls' := [some (.ref l0), some (.int l1), some (.long (s0 / (10 : Int64))), none]) rfl ?_
  exact (pX35_putDigits_b33 hd N _ _ _ _ _ hf).to ⟨rfl, rfl, rfl, trivial⟩
def fX35_putDigits (N : Nat) (this : Nat) (p0 : Int32) (h : eH) : Option (Unit × eH) :=
  if 0 ≤ p0 then
    fX35_putDigits_b12 N this p0 (p0).toInt64 h
  else
    fX35_putDigits_b12 N this p0 (-(p0).toInt64) h
theorem pX35_putDigits {w : eW} {d : Nat} (hd : 2 ≤ d) {N : Nat} {this : Nat} {p0 : Int32} {h : eH} {q} (hf : fX35_putDigits N this p0 h = some q) : wm w d YX35_putDigits [.ref this, .int p0] h (e_is (e_rn c_V q)) := by
  obtain ⟨d, rfl⟩ : ∃ e, d = e + 1 := ⟨d - 1, by omega⟩
  show wp w (d + 1) YX35_putDigits 0 [some (.ref this), some (.int p0), none, none] [] h _
  unfold fX35_putDigits at hf
  refine w_iload_n dX35_putDigits_0 rfl rfl ?_
  refine w_if_ge 10 dX35_putDigits_1 (by decide) (fun c1 => ?_) (fun c1 => ?_)
  · replace hf := (if_pos (show 0 ≤ p0 from c1)).symm.trans hf
    refine w_iload_n dX35_putDigits_10 rfl rfl ?_
    refine w_i2l dX35_putDigits_11 ?_
    exact (pX35_putDigits_b12 hd hf).to ⟨rfl, rfl, trivial⟩
  · replace hf := (if_neg (show ¬ (0 ≤ p0) from c1)).symm.trans hf
    refine w_iload_n dX35_putDigits_4 rfl rfl ?_
    refine w_i2l dX35_putDigits_5 ?_
    refine w_lneg dX35_putDigits_6 ?_
    refine w_goto 12 dX35_putDigits_7 (by decide) ?_
    exact (pX35_putDigits_b12 hd hf).to ⟨rfl, rfl, trivial⟩
abbrev cX35_romanDigit : ByteArray := prog_37_method_49_code
def yX35_romanDigit : MethodName := ⟨RX35, "romanDigit", "(IIII)V"⟩
def YX35_romanDigit : eY := (yX35_romanDigit, cX35_romanDigit, 6, none, [])
theorem mX35_romanDigit : e_mv YX35_romanDigit RX35 4 := ⟨q5310, qs284, q5311, by decide, by decide +kernel, (e_sig (by decide +kernel))⟩
theorem dX35_romanDigit_0 : decode cX35_romanDigit 0 = .ok (.iload_n 1, 1) := dc_27 (by decide +kernel)
theorem dX35_romanDigit_1 : decode cX35_romanDigit 1 = .ok (.iconst 4, 1) := dc_7 (by decide +kernel)
theorem dX35_romanDigit_2 : decode cX35_romanDigit 2 = .ok (.if_icmp .eq 9, 3) := dc_159 (a := 0) (b := 9) (v := 9) (by decide +kernel)
theorem dX35_romanDigit_5 : decode cX35_romanDigit 5 = .ok (.iload_n 1, 1) := dc_27 (by decide +kernel)
theorem dX35_romanDigit_6 : decode cX35_romanDigit 6 = .ok (.bipush 9, 2) := dc_16 (a := 9) (v := 9) (by decide +kernel)
theorem dX35_romanDigit_8 : decode cX35_romanDigit 8 = .ok (.if_icmp .ne 24, 3) := dc_160 (a := 0) (b := 24) (v := 24) (by decide +kernel)
theorem dX35_romanDigit_11 : decode cX35_romanDigit 11 = .ok (.aload_n 0, 1) := dc_42 (by decide +kernel)
theorem dX35_romanDigit_12 : decode cX35_romanDigit 12 = .ok (.iload_n 1, 1) := dc_27 (by decide +kernel)
theorem dX35_romanDigit_13 : decode cX35_romanDigit 13 = .ok (.iconst 4, 1) := dc_7 (by decide +kernel)
theorem dX35_romanDigit_14 : decode cX35_romanDigit 14 = .ok (.if_icmp .ne 7, 3) := dc_160 (a := 0) (b := 7) (v := 7) (by decide +kernel)
theorem dX35_romanDigit_17 : decode cX35_romanDigit 17 = .ok (.iload_n 3, 1) := dc_29 (by decide +kernel)
theorem dX35_romanDigit_18 : decode cX35_romanDigit 18 = .ok (.goto 5, 3) := dc_167 (a := 0) (b := 5) (v := 5) (by decide +kernel)
theorem dX35_romanDigit_21 : decode cX35_romanDigit 21 = .ok (.iload 4, 2) := dc_21 (a := 4) (by decide +kernel)
theorem dX35_romanDigit_23 : decode cX35_romanDigit 23 = .ok (.invokevirtual 551, 3) := dc_182 (a := 2) (b := 39) (n := 551) (by decide +kernel)
theorem dX35_romanDigit_26 : decode cX35_romanDigit 26 = .ok (.aload_n 0, 1) := dc_42 (by decide +kernel)
theorem dX35_romanDigit_27 : decode cX35_romanDigit 27 = .ok (.iload_n 2, 1) := dc_28 (by decide +kernel)
theorem dX35_romanDigit_28 : decode cX35_romanDigit 28 = .ok (.invokevirtual 551, 3) := dc_182 (a := 2) (b := 39) (n := 551) (by decide +kernel)
theorem dX35_romanDigit_31 : decode cX35_romanDigit 31 = .ok (.return_, 1) := dc_177 (by decide +kernel)
theorem dX35_romanDigit_32 : decode cX35_romanDigit 32 = .ok (.iconst 0, 1) := dc_3 (by decide +kernel)
theorem dX35_romanDigit_33 : decode cX35_romanDigit 33 = .ok (.istore 5, 2) := dc_54 (a := 5) (by decide +kernel)
theorem dX35_romanDigit_35 : decode cX35_romanDigit 35 = .ok (.iload 5, 2) := dc_21 (a := 5) (by decide +kernel)
theorem dX35_romanDigit_37 : decode cX35_romanDigit 37 = .ok (.iload_n 1, 1) := dc_27 (by decide +kernel)
theorem dX35_romanDigit_38 : decode cX35_romanDigit 38 = .ok (.iconst 5, 1) := dc_8 (by decide +kernel)
theorem dX35_romanDigit_39 : decode cX35_romanDigit 39 = .ok (.irem, 1) := dc_112 (by decide +kernel)
theorem dX35_romanDigit_40 : decode cX35_romanDigit 40 = .ok (.if_icmp .ge 14, 3) := dc_162 (a := 0) (b := 14) (v := 14) (by decide +kernel)
theorem dX35_romanDigit_43 : decode cX35_romanDigit 43 = .ok (.aload_n 0, 1) := dc_42 (by decide +kernel)
theorem dX35_romanDigit_44 : decode cX35_romanDigit 44 = .ok (.iload_n 2, 1) := dc_28 (by decide +kernel)
theorem dX35_romanDigit_45 : decode cX35_romanDigit 45 = .ok (.invokevirtual 551, 3) := dc_182 (a := 2) (b := 39) (n := 551) (by decide +kernel)
theorem dX35_romanDigit_48 : decode cX35_romanDigit 48 = .ok (.iinc 5 1, 3) := dc_132 (a := 5) (b := 1) (v := 1) (by decide +kernel)
theorem dX35_romanDigit_51 : decode cX35_romanDigit 51 = .ok (.goto (-16), 3) := dc_167 (a := 255) (b := 240) (v := -16) (by decide +kernel)
theorem dX35_romanDigit_54 : decode cX35_romanDigit 54 = .ok (.iload_n 1, 1) := dc_27 (by decide +kernel)
theorem dX35_romanDigit_55 : decode cX35_romanDigit 55 = .ok (.iconst 4, 1) := dc_7 (by decide +kernel)
theorem dX35_romanDigit_56 : decode cX35_romanDigit 56 = .ok (.if_icmp .le 8, 3) := dc_164 (a := 0) (b := 8) (v := 8) (by decide +kernel)
theorem dX35_romanDigit_59 : decode cX35_romanDigit 59 = .ok (.aload_n 0, 1) := dc_42 (by decide +kernel)
theorem dX35_romanDigit_60 : decode cX35_romanDigit 60 = .ok (.iload_n 3, 1) := dc_29 (by decide +kernel)
theorem dX35_romanDigit_61 : decode cX35_romanDigit 61 = .ok (.invokevirtual 551, 3) := dc_182 (a := 2) (b := 39) (n := 551) (by decide +kernel)
theorem dX35_romanDigit_64 : decode cX35_romanDigit 64 = .ok (.return_, 1) := dc_177 (by decide +kernel)
def fX35_romanDigit_b23 (N : Nat) (l0 : Nat) (l2 : Int32) (s0 : Nat) (s1 : Int32) (h : eH) : Option (Unit × eH) :=
  (k_ok 34 h s0).bind fun _ =>
  (fX35_putOther s0 s1 h).bind fun q2 =>
  (k_ok 34 q2.2 l0).bind fun _ =>
  (fX35_putOther l0 l2 q2.2).bind fun q4 =>
  some ((), q4.2)
theorem pX35_romanDigit_b23 {w : eW} {d : Nat} (hd : 2 ≤ d + 1) {N : Nat} {l0 : Nat} {l2 : Int32} {s0 : Nat} {s1 : Int32} {h : eH} {q} (hf : fX35_romanDigit_b23 N l0 l2 s0 s1 h = some q) : wp w (d + 1) YX35_romanDigit 23 [some (.ref l0), none, some (.int l2), none, none, none] [.int s1, .ref s0] h (e_is (e_rn c_V q)) := by
  unfold fX35_romanDigit_b23 at hf
  obtain ⟨_, b1, hf⟩ := Option.bind_eq_some_iff.mp hf
  refine x_cnV hf (e_stV (Yc := YX35_putOther) (ci := 34) (av := [.int s1]) (st := []) dX35_romanDigit_23 q5213 mX35_putOther rfl (k_ok_some b1).1 (k_ok_some b1).2) mX35_putOther.2.2.1 mX35_putOther.2.2.2.2.1 (Nat.le_of_ble_eq_true rfl) (Nat.le_of_ble_eq_true rfl) (fun q hq => pX35_putOther (by omega) hq) (fun q2 hf => ?_)
  refine w_aload_n dX35_romanDigit_26 rfl rfl ?_
  refine w_iload_n dX35_romanDigit_27 rfl rfl ?_
  obtain ⟨_, b3, hf⟩ := Option.bind_eq_some_iff.mp hf
  refine x_cnV hf (e_stV (Yc := YX35_putOther) (ci := 34) (av := [.int l2]) (st := []) dX35_romanDigit_28 q5213 mX35_putOther rfl (k_ok_some b3).1 (k_ok_some b3).2) mX35_putOther.2.2.1 mX35_putOther.2.2.2.2.1 (Nat.le_of_ble_eq_true rfl) (Nat.le_of_ble_eq_true rfl) (fun q hq => pX35_putOther (by omega) hq) (fun q4 hf => ?_)
  cases hf
  exact w_vret dX35_romanDigit_31 rfl rfl
def fX35_romanDigit_b11 (N : Nat) (l0 : Nat) (l1 : Int32) (l2 : Int32) (l3 : Int32) (l4 : Int32) (h : eH) : Option (Unit × eH) :=
  if ¬ l1 = (4 : Int32) then
    fX35_romanDigit_b23 N l0 l2 l0 l4 h
  else
    fX35_romanDigit_b23 N l0 l2 l0 l3 h
theorem pX35_romanDigit_b11 {w : eW} {d : Nat} (hd : 2 ≤ d + 1) {N : Nat} {l0 : Nat} {l1 : Int32} {l2 : Int32} {l3 : Int32} {l4 : Int32} {h : eH} {q} (hf : fX35_romanDigit_b11 N l0 l1 l2 l3 l4 h = some q) : wp w (d + 1) YX35_romanDigit 11 [some (.ref l0), some (.int l1), some (.int l2), some (.int l3), some (.int l4), none] [] h (e_is (e_rn c_V q)) := by
  unfold fX35_romanDigit_b11 at hf
  refine w_aload_n dX35_romanDigit_11 rfl rfl ?_
  refine w_iload_n dX35_romanDigit_12 rfl rfl ?_
  refine w_iconst dX35_romanDigit_13 (v := 4) (by decide) ?_
  refine w_icmp_ne 21 dX35_romanDigit_14 (by decide) (fun c1 => ?_) (fun c1 => ?_)
  · replace hf := (if_pos (show ¬ l1 = (4 : Int32) from c1)).symm.trans hf
    refine w_iload dX35_romanDigit_21 rfl ?_
    exact (pX35_romanDigit_b23 hd hf).to ⟨rfl, rfl, trivial⟩
  · replace hf := (if_neg (show ¬ (¬ l1 = (4 : Int32)) from (fun z => z c1))).symm.trans hf
    refine w_iload_n dX35_romanDigit_17 rfl rfl ?_
    refine w_goto 23 dX35_romanDigit_18 (by decide) ?_
    exact (pX35_romanDigit_b23 hd hf).to ⟨rfl, rfl, trivial⟩
def fX35_romanDigit_b64 (N : Nat)  (h : eH) : Option (Unit × eH) :=
  some ((), h)
theorem pX35_romanDigit_b64 {w : eW} {d : Nat} (hd : 2 ≤ d + 1) {N : Nat}  {h : eH} {q} (hf : fX35_romanDigit_b64 N h = some q) : wp w (d + 1) YX35_romanDigit 64 [none, none, none, none, none, none] [] h (e_is (e_rn c_V q)) := by
  unfold fX35_romanDigit_b64 at hf
  cases hf
  exact w_vret dX35_romanDigit_64 rfl rfl
def fX35_romanDigit_b35 (N : Nat) : Nat → Nat → Int32 → Int32 → Int32 → Int32 → eH → Option (Unit × eH)
  | 0, _, _, _, _, _, _ => none
  | n + 1, l0, l1, l2, l3, l5, h =>
    if (l1 - l1 / (5 : Int32) * (5 : Int32)) ≤ l5 then
      if l1 ≤ (4 : Int32) then
        fX35_romanDigit_b64 N h
      else
        (k_ok 34 h l0).bind fun _ =>
        (fX35_putOther l0 l3 h).bind fun q4 =>
        fX35_romanDigit_b64 N q4.2
    else
      (k_ok 34 h l0).bind fun _ =>
      (fX35_putOther l0 l2 h).bind fun q6 =>
      fX35_romanDigit_b35 N n l0 l1 l2 l3 (l5 + (1 : Int32)) q6.2
theorem pX35_romanDigit_b35 {w : eW} {d : Nat} (hd : 2 ≤ d + 1) {N : Nat} : ∀ (n : Nat) l0 l1 l2 l3 l5 h q, fX35_romanDigit_b35 N n l0 l1 l2 l3 l5 h = some q → wp w (d + 1) YX35_romanDigit 35 [some (.ref l0), some (.int l1), some (.int l2), some (.int l3), none, some (.int l5)] [] h (e_is (e_rn c_V q)) := by
  intro n
  induction n with
  | zero => intro l0 l1 l2 l3 l5 h q hf; simp [fX35_romanDigit_b35] at hf
  | succ n ih =>
    intro l0 l1 l2 l3 l5 h q hf
    rw [fX35_romanDigit_b35] at hf
    refine w_iload dX35_romanDigit_35 rfl ?_
    refine w_iload_n dX35_romanDigit_37 rfl rfl ?_
    refine w_iconst dX35_romanDigit_38 (v := 5) (by decide) ?_
    refine w_irem dX35_romanDigit_39 (by decide) ?_
    refine w_icmp_ge 54 dX35_romanDigit_40 (by decide) (fun c1 => ?_) (fun c1 => ?_)
    · replace hf := (if_pos (show (l1 - l1 / (5 : Int32) * (5 : Int32)) ≤ l5 from c1)).symm.trans hf
      refine w_iload_n dX35_romanDigit_54 rfl rfl ?_
      refine w_iconst dX35_romanDigit_55 (v := 4) (by decide) ?_
      refine w_icmp_le 64 dX35_romanDigit_56 (by decide) (fun c2 => ?_) (fun c2 => ?_)
      · replace hf := (if_pos (show l1 ≤ (4 : Int32) from c2)).symm.trans hf
        exact (pX35_romanDigit_b64 hd hf).to trivial
      · replace hf := (if_neg (show ¬ (l1 ≤ (4 : Int32)) from c2)).symm.trans hf
        refine w_aload_n dX35_romanDigit_59 rfl rfl ?_
        refine w_iload_n dX35_romanDigit_60 rfl rfl ?_
        obtain ⟨_, b3, hf⟩ := Option.bind_eq_some_iff.mp hf
        refine x_cnV hf (e_stV (Yc := YX35_putOther) (ci := 34) (av := [.int l3]) (st := []) dX35_romanDigit_61 q5213 mX35_putOther rfl (k_ok_some b3).1 (k_ok_some b3).2) mX35_putOther.2.2.1 mX35_putOther.2.2.2.2.1 (Nat.le_of_ble_eq_true rfl) (Nat.le_of_ble_eq_true rfl) (fun q hq => pX35_putOther (by omega) hq) (fun q4 hf => ?_)
        exact (pX35_romanDigit_b64 hd hf).to trivial
    · replace hf := (if_neg (show ¬ ((l1 - l1 / (5 : Int32) * (5 : Int32)) ≤ l5) from c1)).symm.trans hf
      refine w_aload_n dX35_romanDigit_43 rfl rfl ?_
      refine w_iload_n dX35_romanDigit_44 rfl rfl ?_
      obtain ⟨_, b5, hf⟩ := Option.bind_eq_some_iff.mp hf
      refine x_cnV hf (e_stV (Yc := YX35_putOther) (ci := 34) (av := [.int l2]) (st := []) dX35_romanDigit_45 q5213 mX35_putOther rfl (k_ok_some b5).1 (k_ok_some b5).2) mX35_putOther.2.2.1 mX35_putOther.2.2.2.2.1 (Nat.le_of_ble_eq_true rfl) (Nat.le_of_ble_eq_true rfl) (fun q hq => pX35_putOther (by omega) hq) (fun q6 hf => ?_)
      refine w_iinc dX35_romanDigit_48 (v := (l5 + (1 : Int32))) rfl rfl (by decide) (ls' := [some (.ref l0), some (.int l1), some (.int l2), some (.int l3), none, some (.int (l5 + (1 : Int32)))]) rfl ?_
      refine w_goto 35 dX35_romanDigit_51 (by decide) ?_
      exact (ih _ _ _ _ _ _ _ hf).to ⟨rfl, rfl, rfl, rfl, rfl, trivial⟩
def fX35_romanDigit (N : Nat) (this : Nat) (p0 : Int32) (p1 : Int32) (p2 : Int32) (p3 : Int32) (h : eH) : Option (Unit × eH) :=
  if p0 = (4 : Int32) then
    fX35_romanDigit_b11 N this p0 p1 p2 p3 h
  else
    if ¬ p0 = (9 : Int32) then
      fX35_romanDigit_b35 N N this p0 p1 p2 (0 : Int32) h
    else
      fX35_romanDigit_b11 N this p0 p1 p2 p3 h
theorem pX35_romanDigit {w : eW} {d : Nat} (hd : 2 ≤ d) {N : Nat} {this : Nat} {p0 : Int32} {p1 : Int32} {p2 : Int32} {p3 : Int32} {h : eH} {q} (hf : fX35_romanDigit N this p0 p1 p2 p3 h = some q) : wm w d YX35_romanDigit [.ref this, .int p0, .int p1, .int p2, .int p3] h (e_is (e_rn c_V q)) := by
  obtain ⟨d, rfl⟩ : ∃ e, d = e + 1 := ⟨d - 1, by omega⟩
  show wp w (d + 1) YX35_romanDigit 0 [some (.ref this), some (.int p0), some (.int p1), some (.int p2), some (.int p3), none] [] h _
  unfold fX35_romanDigit at hf
  refine w_iload_n dX35_romanDigit_0 rfl rfl ?_
  refine w_iconst dX35_romanDigit_1 (v := 4) (by decide) ?_
  refine w_icmp_eq 11 dX35_romanDigit_2 (by decide) (fun c1 => ?_) (fun c1 => ?_)
  · replace hf := (if_pos (show p0 = (4 : Int32) from c1)).symm.trans hf
    exact (pX35_romanDigit_b11 hd hf).to ⟨rfl, rfl, rfl, rfl, rfl, trivial⟩
  · replace hf := (if_neg (show ¬ (p0 = (4 : Int32)) from c1)).symm.trans hf
    refine w_iload_n dX35_romanDigit_5 rfl rfl ?_
    refine w_bipush dX35_romanDigit_6 (v := 9) (by decide) ?_
    refine w_icmp_ne 32 dX35_romanDigit_8 (by decide) (fun c2 => ?_) (fun c2 => ?_)
    · replace hf := (if_pos (show ¬ p0 = (9 : Int32) from c2)).symm.trans hf
      refine w_iconst dX35_romanDigit_32 (v := 0) (by decide) ?_
      refine w_istore dX35_romanDigit_33 (by decide) (ls' := [some (.ref this), some (.int p0), some (.int p1), some (.int p2), some (.int p3), some (.int (0 : Int32))]) rfl ?_
      exact (pX35_romanDigit_b35 hd N _ _ _ _ _ _ _ hf).to ⟨rfl, rfl, rfl, rfl, rfl, trivial⟩
    · replace hf := (if_neg (show ¬ (¬ p0 = (9 : Int32)) from (fun z => z c2))).symm.trans hf
      exact (pX35_romanDigit_b11 hd hf).to ⟨rfl, rfl, rfl, rfl, rfl, trivial⟩
abbrev cX35_roman : ByteArray := prog_37_method_50_code
def yX35_roman : MethodName := ⟨RX35, "roman", "(I)V"⟩
def YX35_roman : eY := (yX35_roman, cX35_roman, 3, none, [])
theorem mX35_roman : e_mv YX35_roman RX35 1 := ⟨q5306, qs283, q5307, by decide, by decide +kernel, (e_sig (by decide +kernel))⟩
theorem dX35_roman_0 : decode cX35_roman 0 = .ok (.aload_n 0, 1) := dc_42 (by decide +kernel)
theorem dX35_roman_1 : decode cX35_roman 1 = .ok (.getfield 321, 3) := dc_180 (a := 1) (b := 65) (n := 321) (by decide +kernel)
theorem dX35_roman_4 : decode cX35_roman 4 = .ok (.ifCond .gt 7, 3) := dc_157 (a := 0) (b := 7) (v := 7) (by decide +kernel)
theorem dX35_roman_7 : decode cX35_roman 7 = .ok (.iload_n 1, 1) := dc_27 (by decide +kernel)
theorem dX35_roman_8 : decode cX35_roman 8 = .ok (.ifCond .gt 4, 3) := dc_157 (a := 0) (b := 4) (v := 4) (by decide +kernel)
theorem dX35_roman_11 : decode cX35_roman 11 = .ok (.return_, 1) := dc_177 (by decide +kernel)
theorem dX35_roman_12 : decode cX35_roman 12 = .ok (.iload_n 1, 1) := dc_27 (by decide +kernel)
theorem dX35_roman_13 : decode cX35_roman 13 = .ok (.sipush 9999, 3) := dc_17 (a := 39) (b := 15) (v := 9999) (by decide +kernel)
theorem dX35_roman_16 : decode cX35_roman 16 = .ok (.if_icmp .le 10, 3) := dc_164 (a := 0) (b := 10) (v := 10) (by decide +kernel)
theorem dX35_roman_19 : decode cX35_roman 19 = .ok (.aload_n 0, 1) := dc_42 (by decide +kernel)
theorem dX35_roman_20 : decode cX35_roman 20 = .ok (.bipush 7, 2) := dc_16 (a := 7) (v := 7) (by decide +kernel)
theorem dX35_roman_22 : decode cX35_roman 22 = .ok (.invokevirtual 428, 3) := dc_182 (a := 1) (b := 172) (n := 428) (by decide +kernel)
theorem dX35_roman_25 : decode cX35_roman 25 = .ok (.return_, 1) := dc_177 (by decide +kernel)
theorem dX35_roman_26 : decode cX35_roman 26 = .ok (.aload_n 0, 1) := dc_42 (by decide +kernel)
theorem dX35_roman_27 : decode cX35_roman 27 = .ok (.iload_n 1, 1) := dc_27 (by decide +kernel)
theorem dX35_roman_28 : decode cX35_roman 28 = .ok (.bipush 10, 2) := dc_16 (a := 10) (v := 10) (by decide +kernel)
theorem dX35_roman_30 : decode cX35_roman 30 = .ok (.irem, 1) := dc_112 (by decide +kernel)
theorem dX35_roman_31 : decode cX35_roman 31 = .ok (.bipush 105, 2) := dc_16 (a := 105) (v := 105) (by decide +kernel)
theorem dX35_roman_33 : decode cX35_roman 33 = .ok (.bipush 118, 2) := dc_16 (a := 118) (v := 118) (by decide +kernel)
theorem dX35_roman_35 : decode cX35_roman 35 = .ok (.bipush 120, 2) := dc_16 (a := 120) (v := 120) (by decide +kernel)
theorem dX35_roman_37 : decode cX35_roman 37 = .ok (.invokevirtual 564, 3) := dc_182 (a := 2) (b := 52) (n := 564) (by decide +kernel)
theorem dX35_roman_40 : decode cX35_roman 40 = .ok (.aload_n 0, 1) := dc_42 (by decide +kernel)
theorem dX35_roman_41 : decode cX35_roman 41 = .ok (.iload_n 1, 1) := dc_27 (by decide +kernel)
theorem dX35_roman_42 : decode cX35_roman 42 = .ok (.bipush 10, 2) := dc_16 (a := 10) (v := 10) (by decide +kernel)
theorem dX35_roman_44 : decode cX35_roman 44 = .ok (.idiv, 1) := dc_108 (by decide +kernel)
theorem dX35_roman_45 : decode cX35_roman 45 = .ok (.bipush 10, 2) := dc_16 (a := 10) (v := 10) (by decide +kernel)
theorem dX35_roman_47 : decode cX35_roman 47 = .ok (.irem, 1) := dc_112 (by decide +kernel)
theorem dX35_roman_48 : decode cX35_roman 48 = .ok (.bipush 120, 2) := dc_16 (a := 120) (v := 120) (by decide +kernel)
theorem dX35_roman_50 : decode cX35_roman 50 = .ok (.bipush 108, 2) := dc_16 (a := 108) (v := 108) (by decide +kernel)
theorem dX35_roman_52 : decode cX35_roman 52 = .ok (.bipush 99, 2) := dc_16 (a := 99) (v := 99) (by decide +kernel)
theorem dX35_roman_54 : decode cX35_roman 54 = .ok (.invokevirtual 564, 3) := dc_182 (a := 2) (b := 52) (n := 564) (by decide +kernel)
theorem dX35_roman_57 : decode cX35_roman 57 = .ok (.aload_n 0, 1) := dc_42 (by decide +kernel)
theorem dX35_roman_58 : decode cX35_roman 58 = .ok (.iload_n 1, 1) := dc_27 (by decide +kernel)
theorem dX35_roman_59 : decode cX35_roman 59 = .ok (.bipush 100, 2) := dc_16 (a := 100) (v := 100) (by decide +kernel)
theorem dX35_roman_61 : decode cX35_roman 61 = .ok (.idiv, 1) := dc_108 (by decide +kernel)
theorem dX35_roman_62 : decode cX35_roman 62 = .ok (.bipush 10, 2) := dc_16 (a := 10) (v := 10) (by decide +kernel)
theorem dX35_roman_64 : decode cX35_roman 64 = .ok (.irem, 1) := dc_112 (by decide +kernel)
theorem dX35_roman_65 : decode cX35_roman 65 = .ok (.bipush 99, 2) := dc_16 (a := 99) (v := 99) (by decide +kernel)
theorem dX35_roman_67 : decode cX35_roman 67 = .ok (.bipush 100, 2) := dc_16 (a := 100) (v := 100) (by decide +kernel)
theorem dX35_roman_69 : decode cX35_roman 69 = .ok (.bipush 109, 2) := dc_16 (a := 109) (v := 109) (by decide +kernel)
theorem dX35_roman_71 : decode cX35_roman 71 = .ok (.invokevirtual 564, 3) := dc_182 (a := 2) (b := 52) (n := 564) (by decide +kernel)
theorem dX35_roman_74 : decode cX35_roman 74 = .ok (.iconst 0, 1) := dc_3 (by decide +kernel)
theorem dX35_roman_75 : decode cX35_roman 75 = .ok (.istore_n 2, 1) := dc_61 (by decide +kernel)
theorem dX35_roman_76 : decode cX35_roman 76 = .ok (.iload_n 2, 1) := dc_28 (by decide +kernel)
theorem dX35_roman_77 : decode cX35_roman 77 = .ok (.iload_n 1, 1) := dc_27 (by decide +kernel)
theorem dX35_roman_78 : decode cX35_roman 78 = .ok (.sipush 1000, 3) := dc_17 (a := 3) (b := 232) (v := 1000) (by decide +kernel)
theorem dX35_roman_81 : decode cX35_roman 81 = .ok (.idiv, 1) := dc_108 (by decide +kernel)
theorem dX35_roman_82 : decode cX35_roman 82 = .ok (.if_icmp .ge 15, 3) := dc_162 (a := 0) (b := 15) (v := 15) (by decide +kernel)
theorem dX35_roman_85 : decode cX35_roman 85 = .ok (.aload_n 0, 1) := dc_42 (by decide +kernel)
theorem dX35_roman_86 : decode cX35_roman 86 = .ok (.bipush 109, 2) := dc_16 (a := 109) (v := 109) (by decide +kernel)
theorem dX35_roman_88 : decode cX35_roman 88 = .ok (.invokevirtual 551, 3) := dc_182 (a := 2) (b := 39) (n := 551) (by decide +kernel)
theorem dX35_roman_91 : decode cX35_roman 91 = .ok (.iinc 2 1, 3) := dc_132 (a := 2) (b := 1) (v := 1) (by decide +kernel)
theorem dX35_roman_94 : decode cX35_roman 94 = .ok (.goto (-18), 3) := dc_167 (a := 255) (b := 238) (v := -18) (by decide +kernel)
theorem dX35_roman_97 : decode cX35_roman 97 = .ok (.return_, 1) := dc_177 (by decide +kernel)
def fX35_roman_b11 (N : Nat)  (h : eH) : Option (Unit × eH) :=
  some ((), h)
theorem pX35_roman_b11 {w : eW} {d : Nat} (hd : 3 ≤ d + 1) {N : Nat}  {h : eH} {q} (hf : fX35_roman_b11 N h = some q) : wp w (d + 1) YX35_roman 11 [none, none, none] [] h (e_is (e_rn c_V q)) := by
  unfold fX35_roman_b11 at hf
  cases hf
  exact w_vret dX35_roman_11 rfl rfl
def fX35_roman_b76 (N : Nat) : Nat → Nat → Int32 → Int32 → eH → Option (Unit × eH)
  | 0, _, _, _, _ => none
  | n + 1, l0, l1, l2, h =>
    if (l1 / (1000 : Int32)) ≤ l2 then
      some ((), h)
    else
      (k_ok 34 h l0).bind fun _ =>
      (fX35_putOther l0 (109 : Int32) h).bind fun q3 =>
      fX35_roman_b76 N n l0 l1 (l2 + (1 : Int32)) q3.2
theorem pX35_roman_b76 {w : eW} {d : Nat} (hd : 3 ≤ d + 1) {N : Nat} : ∀ (n : Nat) l0 l1 l2 h q, fX35_roman_b76 N n l0 l1 l2 h = some q → wp w (d + 1) YX35_roman 76 [some (.ref l0), some (.int l1), some (.int l2)] [] h (e_is (e_rn c_V q)) := by
  intro n
  induction n with
  | zero => intro l0 l1 l2 h q hf; simp [fX35_roman_b76] at hf
  | succ n ih =>
    intro l0 l1 l2 h q hf
    rw [fX35_roman_b76] at hf
    refine w_iload_n dX35_roman_76 rfl rfl ?_
    refine w_iload_n dX35_roman_77 rfl rfl ?_
    refine w_sipush dX35_roman_78 (v := 1000) (by decide) ?_
    refine w_idiv dX35_roman_81 (by decide) ?_
    refine w_icmp_ge 97 dX35_roman_82 (by decide) (fun c1 => ?_) (fun c1 => ?_)
    · replace hf := (if_pos (show (l1 / (1000 : Int32)) ≤ l2 from c1)).symm.trans hf
      cases hf
      exact w_vret dX35_roman_97 rfl rfl
    · replace hf := (if_neg (show ¬ ((l1 / (1000 : Int32)) ≤ l2) from c1)).symm.trans hf
      refine w_aload_n dX35_roman_85 rfl rfl ?_
      refine w_bipush dX35_roman_86 (v := 109) (by decide) ?_
      obtain ⟨_, b2, hf⟩ := Option.bind_eq_some_iff.mp hf
      refine x_cnV hf (e_stV (Yc := YX35_putOther) (ci := 34) (av := [.int (109 : Int32)]) (st := []) dX35_roman_88 q5213 mX35_putOther rfl (k_ok_some b2).1 (k_ok_some b2).2) mX35_putOther.2.2.1 mX35_putOther.2.2.2.2.1 (Nat.le_of_ble_eq_true rfl) (Nat.le_of_ble_eq_true rfl) (fun q hq => pX35_putOther (by omega) hq) (fun q3 hf => ?_)
      refine w_iinc dX35_roman_91 (v := (l2 + (1 : Int32))) rfl rfl (by decide) (ls' := [some (.ref l0), some (.int l1), some (.int (l2 + (1 : Int32)))]) rfl ?_
      refine w_goto 76 dX35_roman_94 (by decide) ?_
      exact (ih _ _ _ _ _ hf).to ⟨rfl, rfl, rfl, trivial⟩
def fX35_roman (N : Nat) (this : Nat) (p0 : Int32) (h : eH) : Option (Unit × eH) :=
  (g_I 34 h this 46).bind fun x1 =>
  if 0 < x1 then
    fX35_roman_b11 N h
  else
    if 0 < p0 then
      if p0 ≤ (9999 : Int32) then
        (k_ok 34 h this).bind fun _ =>
        (fX35_romanDigit N this (p0 - p0 / (10 : Int32) * (10 : Int32)) (105 : Int32) (118 : Int32) (120 : Int32) h).bind fun q7 =>
        (k_ok 34 q7.2 this).bind fun _ =>
        (fX35_romanDigit N this ((p0 / (10 : Int32)) - (p0 / (10 : Int32)) / (10 : Int32) * (10 : Int32)) (120 : Int32) (108 : Int32) (99 : Int32) q7.2).bind fun q9 =>
        (k_ok 34 q9.2 this).bind fun _ =>
        (fX35_romanDigit N this ((p0 / (100 : Int32)) - (p0 / (100 : Int32)) / (10 : Int32) * (10 : Int32)) (99 : Int32) (100 : Int32) (109 : Int32) q9.2).bind fun q11 =>
        fX35_roman_b76 N N this p0 (0 : Int32) q11.2
      else
        (k_ok 34 h this).bind fun _ =>
        (fX35_fail this (7 : Int32) h).bind fun q13 =>
        some ((), q13.2)
    else
      fX35_roman_b11 N h
theorem pX35_roman {w : eW} {d : Nat} (hd : 3 ≤ d) {N : Nat} {this : Nat} {p0 : Int32} {h : eH} {q} (hf : fX35_roman N this p0 h = some q) : wm w d YX35_roman [.ref this, .int p0] h (e_is (e_rn c_V q)) := by
  obtain ⟨d, rfl⟩ : ∃ e, d = e + 1 := ⟨d - 1, by omega⟩
  show wp w (d + 1) YX35_roman 0 [some (.ref this), some (.int p0), none] [] h _
  unfold fX35_roman at hf
  refine w_aload_n dX35_roman_0 rfl rfl ?_
  obtain ⟨x1, b2, hf⟩ := Option.bind_eq_some_iff.mp hf
  refine GX35_321 b2 dX35_roman_1 rfl ?_
  refine w_if_gt 11 dX35_roman_4 (by decide) (fun c3 => ?_) (fun c3 => ?_)
  · replace hf := (if_pos (show 0 < x1 from c3)).symm.trans hf
    exact (pX35_roman_b11 hd hf).to trivial
  · replace hf := (if_neg (show ¬ (0 < x1) from c3)).symm.trans hf
    refine w_iload_n dX35_roman_7 rfl rfl ?_
    refine w_if_gt 12 dX35_roman_8 (by decide) (fun c4 => ?_) (fun c4 => ?_)
    · replace hf := (if_pos (show 0 < p0 from c4)).symm.trans hf
      refine w_iload_n dX35_roman_12 rfl rfl ?_
      refine w_sipush dX35_roman_13 (v := 9999) (by decide) ?_
      refine w_icmp_le 26 dX35_roman_16 (by decide) (fun c5 => ?_) (fun c5 => ?_)
      · replace hf := (if_pos (show p0 ≤ (9999 : Int32) from c5)).symm.trans hf
        refine w_aload_n dX35_roman_26 rfl rfl ?_
        refine w_iload_n dX35_roman_27 rfl rfl ?_
        refine w_bipush dX35_roman_28 (v := 10) (by decide) ?_
        refine w_irem dX35_roman_30 (by decide) ?_
        refine w_bipush dX35_roman_31 (v := 105) (by decide) ?_
        refine w_bipush dX35_roman_33 (v := 118) (by decide) ?_
        refine w_bipush dX35_roman_35 (v := 120) (by decide) ?_
        obtain ⟨_, b6, hf⟩ := Option.bind_eq_some_iff.mp hf
        refine x_cnV hf (e_stV (Yc := YX35_romanDigit) (ci := 34) (av := [.int (p0 - p0 / (10 : Int32) * (10 : Int32)), .int (105 : Int32), .int (118 : Int32), .int (120 : Int32)]) (st := []) dX35_roman_37 q5308 mX35_romanDigit rfl (k_ok_some b6).1 (k_ok_some b6).2) mX35_romanDigit.2.2.1 mX35_romanDigit.2.2.2.2.1 (Nat.le_of_ble_eq_true rfl) (Nat.le_of_ble_eq_true rfl) (fun q hq => pX35_romanDigit (by omega) hq) (fun q7 hf => ?_)
        refine w_aload_n dX35_roman_40 rfl rfl ?_
        refine w_iload_n dX35_roman_41 rfl rfl ?_
        refine w_bipush dX35_roman_42 (v := 10) (by decide) ?_
        refine w_idiv dX35_roman_44 (by decide) ?_
        refine w_bipush dX35_roman_45 (v := 10) (by decide) ?_
        refine w_irem dX35_roman_47 (by decide) ?_
        refine w_bipush dX35_roman_48 (v := 120) (by decide) ?_
        refine w_bipush dX35_roman_50 (v := 108) (by decide) ?_
        refine w_bipush dX35_roman_52 (v := 99) (by decide) ?_
        obtain ⟨_, b8, hf⟩ := Option.bind_eq_some_iff.mp hf
        refine x_cnV hf (e_stV (Yc := YX35_romanDigit) (ci := 34) (av := [.int ((p0 / (10 : Int32)) - (p0 / (10 : Int32)) / (10 : Int32) * (10 : Int32)), .int (120 : Int32), .int (108 : Int32), .int (99 : Int32)]) (st := []) dX35_roman_54 q5308 mX35_romanDigit rfl (k_ok_some b8).1 (k_ok_some b8).2) mX35_romanDigit.2.2.1 mX35_romanDigit.2.2.2.2.1 (Nat.le_of_ble_eq_true rfl) (Nat.le_of_ble_eq_true rfl) (fun q hq => pX35_romanDigit (by omega) hq) (fun q9 hf => ?_)
        refine w_aload_n dX35_roman_57 rfl rfl ?_
        refine w_iload_n dX35_roman_58 rfl rfl ?_
        refine w_bipush dX35_roman_59 (v := 100) (by decide) ?_
        refine w_idiv dX35_roman_61 (by decide) ?_
        refine w_bipush dX35_roman_62 (v := 10) (by decide) ?_
        refine w_irem dX35_roman_64 (by decide) ?_
        refine w_bipush dX35_roman_65 (v := 99) (by decide) ?_
        refine w_bipush dX35_roman_67 (v := 100) (by decide) ?_
        refine w_bipush dX35_roman_69 (v := 109) (by decide) ?_
        obtain ⟨_, b10, hf⟩ := Option.bind_eq_some_iff.mp hf
        refine x_cnV hf (e_stV (Yc := YX35_romanDigit) (ci := 34) (av := [.int ((p0 / (100 : Int32)) - (p0 / (100 : Int32)) / (10 : Int32) * (10 : Int32)), .int (99 : Int32), .int (100 : Int32), .int (109 : Int32)]) (st := []) dX35_roman_71 q5308 mX35_romanDigit rfl (k_ok_some b10).1 (k_ok_some b10).2) mX35_romanDigit.2.2.1 mX35_romanDigit.2.2.2.2.1 (Nat.le_of_ble_eq_true rfl) (Nat.le_of_ble_eq_true rfl) (fun q hq => pX35_romanDigit (by omega) hq) (fun q11 hf => ?_)
        refine w_iconst dX35_roman_74 (v := 0) (by decide) ?_
        refine w_istore_n dX35_roman_75 rfl (by decide) (ls' := [some (.ref this), some (.int p0), some (.int (0 : Int32))]) rfl ?_
        exact (pX35_roman_b76 hd N _ _ _ _ _ hf).to ⟨rfl, rfl, rfl, trivial⟩
      · replace hf := (if_neg (show ¬ (p0 ≤ (9999 : Int32)) from c5)).symm.trans hf
        refine w_aload_n dX35_roman_19 rfl rfl ?_
        refine w_bipush dX35_roman_20 (v := 7) (by decide) ?_
        obtain ⟨_, b12, hf⟩ := Option.bind_eq_some_iff.mp hf
        refine x_cnV hf (e_stV (Yc := YX35_fail) (ci := 34) (av := [.int (7 : Int32)]) (st := []) dX35_roman_22 q5109 mX35_fail rfl (k_ok_some b12).1 (k_ok_some b12).2) mX35_fail.2.2.1 mX35_fail.2.2.2.2.1 (Nat.le_of_ble_eq_true rfl) (Nat.le_of_ble_eq_true rfl) (fun q hq => pX35_fail (by omega) hq) (fun q13 hf => ?_)
        cases hf
        exact w_vret dX35_roman_25 rfl rfl
    · replace hf := (if_neg (show ¬ (0 < p0) from c4)).symm.trans hf
      exact (pX35_roman_b11 hd hf).to trivial
abbrev cX35_told : ByteArray := prog_37_method_44_code
def yX35_told : MethodName := ⟨RX35, "told", "(I)V"⟩
def YX35_told : eY := (yX35_told, cX35_told, 3, none, [])
theorem mX35_told : e_mv YX35_told RX35 1 := ⟨q5314, qs285, q5315, by decide, by decide +kernel, (e_sig (by decide +kernel))⟩
theorem dX35_told_0 : decode cX35_told 0 = .ok (.aload_n 0, 1) := dc_42 (by decide +kernel)
theorem dX35_told_1 : decode cX35_told 1 = .ok (.getfield 321, 3) := dc_180 (a := 1) (b := 65) (n := 321) (by decide +kernel)
theorem dX35_told_4 : decode cX35_told 4 = .ok (.ifCond .le 4, 3) := dc_158 (a := 0) (b := 4) (v := 4) (by decide +kernel)
theorem dX35_told_7 : decode cX35_told 7 = .ok (.return_, 1) := dc_177 (by decide +kernel)
theorem dX35_told_8 : decode cX35_told 8 = .ok (.aload_n 0, 1) := dc_42 (by decide +kernel)
theorem dX35_told_9 : decode cX35_told 9 = .ok (.iload_n 1, 1) := dc_27 (by decide +kernel)
theorem dX35_told_10 : decode cX35_told 10 = .ok (.invokevirtual 536, 3) := dc_182 (a := 2) (b := 24) (n := 536) (by decide +kernel)
theorem dX35_told_13 : decode cX35_told 13 = .ok (.ifCond .eq 15, 3) := dc_153 (a := 0) (b := 15) (v := 15) (by decide +kernel)
theorem dX35_told_16 : decode cX35_told 16 = .ok (.aload_n 0, 1) := dc_42 (by decide +kernel)
theorem dX35_told_17 : decode cX35_told 17 = .ok (.aload_n 0, 1) := dc_42 (by decide +kernel)
theorem dX35_told_18 : decode cX35_told 18 = .ok (.iload_n 1, 1) := dc_27 (by decide +kernel)
theorem dX35_told_19 : decode cX35_told 19 = .ok (.invokevirtual 539, 3) := dc_182 (a := 2) (b := 27) (n := 539) (by decide +kernel)
theorem dX35_told_22 : decode cX35_told 22 = .ok (.invokevirtual 521, 3) := dc_182 (a := 2) (b := 9) (n := 521) (by decide +kernel)
theorem dX35_told_25 : decode cX35_told 25 = .ok (.goto 51, 3) := dc_167 (a := 0) (b := 51) (v := 51) (by decide +kernel)
theorem dX35_told_28 : decode cX35_told 28 = .ok (.aload_n 0, 1) := dc_42 (by decide +kernel)
theorem dX35_told_29 : decode cX35_told 29 = .ok (.iload_n 1, 1) := dc_27 (by decide +kernel)
theorem dX35_told_30 : decode cX35_told 30 = .ok (.invokevirtual 542, 3) := dc_182 (a := 2) (b := 30) (n := 542) (by decide +kernel)
theorem dX35_told_33 : decode cX35_told 33 = .ok (.ifCond .ne 11, 3) := dc_154 (a := 0) (b := 11) (v := 11) (by decide +kernel)
theorem dX35_told_36 : decode cX35_told 36 = .ok (.aload_n 0, 1) := dc_42 (by decide +kernel)
theorem dX35_told_37 : decode cX35_told 37 = .ok (.iload_n 1, 1) := dc_27 (by decide +kernel)
theorem dX35_told_38 : decode cX35_told 38 = .ok (.invokevirtual 545, 3) := dc_182 (a := 2) (b := 33) (n := 545) (by decide +kernel)
theorem dX35_told_41 : decode cX35_told 41 = .ok (.ifCond .eq 29, 3) := dc_153 (a := 0) (b := 29) (v := 29) (by decide +kernel)
theorem dX35_told_44 : decode cX35_told 44 = .ok (.aload_n 0, 1) := dc_42 (by decide +kernel)
theorem dX35_told_45 : decode cX35_told 45 = .ok (.iload_n 1, 1) := dc_27 (by decide +kernel)
theorem dX35_told_46 : decode cX35_told 46 = .ok (.invokevirtual 548, 3) := dc_182 (a := 2) (b := 36) (n := 548) (by decide +kernel)
theorem dX35_told_49 : decode cX35_told 49 = .ok (.istore_n 2, 1) := dc_61 (by decide +kernel)
theorem dX35_told_50 : decode cX35_told 50 = .ok (.aload_n 0, 1) := dc_42 (by decide +kernel)
theorem dX35_told_51 : decode cX35_told 51 = .ok (.bipush 112, 2) := dc_16 (a := 112) (v := 112) (by decide +kernel)
theorem dX35_told_53 : decode cX35_told 53 = .ok (.invokevirtual 551, 3) := dc_182 (a := 2) (b := 39) (n := 551) (by decide +kernel)
theorem dX35_told_56 : decode cX35_told 56 = .ok (.aload_n 0, 1) := dc_42 (by decide +kernel)
theorem dX35_told_57 : decode cX35_told 57 = .ok (.bipush 115, 2) := dc_16 (a := 115) (v := 115) (by decide +kernel)
theorem dX35_told_59 : decode cX35_told 59 = .ok (.invokevirtual 551, 3) := dc_182 (a := 2) (b := 39) (n := 551) (by decide +kernel)
theorem dX35_told_62 : decode cX35_told 62 = .ok (.aload_n 0, 1) := dc_42 (by decide +kernel)
theorem dX35_told_63 : decode cX35_told 63 = .ok (.iload_n 2, 1) := dc_28 (by decide +kernel)
theorem dX35_told_64 : decode cX35_told 64 = .ok (.invokevirtual 521, 3) := dc_182 (a := 2) (b := 9) (n := 521) (by decide +kernel)
theorem dX35_told_67 : decode cX35_told 67 = .ok (.goto 9, 3) := dc_167 (a := 0) (b := 9) (v := 9) (by decide +kernel)
theorem dX35_told_70 : decode cX35_told 70 = .ok (.aload_n 0, 1) := dc_42 (by decide +kernel)
theorem dX35_told_71 : decode cX35_told 71 = .ok (.bipush 6, 2) := dc_16 (a := 6) (v := 6) (by decide +kernel)
theorem dX35_told_73 : decode cX35_told 73 = .ok (.invokevirtual 428, 3) := dc_182 (a := 1) (b := 172) (n := 428) (by decide +kernel)
theorem dX35_told_76 : decode cX35_told 76 = .ok (.return_, 1) := dc_177 (by decide +kernel)
def fX35_told_b76 (N : Nat) (sN : Nat → eH → Option (Int32 × eH))  (h : eH) : Option (Unit × eH) :=
  some ((), h)
theorem pX35_told_b76 {w : eW} {d : Nat} {dr : Nat} (hd : dr + 5 ≤ d + 1) (hdr : 12 ≤ dr) {N : Nat} {sN : Nat → eH → Option (Int32 × eH)} (hsN : ∀ a h q, sN a h = some q → wm w dr YX35_number [.ref a] h (e_is (e_rn c_I q)))  {h : eH} {q} (hf : fX35_told_b76 N sN h = some q) : wp w (d + 1) YX35_told 76 [none, none, none] [] h (e_is (e_rn c_V q)) := by
  unfold fX35_told_b76 at hf
  cases hf
  exact w_vret dX35_told_76 rfl rfl
def fX35_told_b44 (N : Nat) (sN : Nat → eH → Option (Int32 × eH)) (l0 : Nat) (l1 : Int32) (h : eH) : Option (Unit × eH) :=
  (k_ok 34 h l0).bind fun _ =>
  (fX35_lengthOf sN l0 l1 h).bind fun q2 =>
  (k_ok 34 q2.2 l0).bind fun _ =>
  (fX35_putOther l0 (112 : Int32) q2.2).bind fun q4 =>
  (k_ok 34 q4.2 l0).bind fun _ =>
  (fX35_putOther l0 (115 : Int32) q4.2).bind fun q6 =>
  (k_ok 34 q6.2 l0).bind fun _ =>
  (fX35_putDigits N l0 q2.1 q6.2).bind fun q8 =>
  fX35_told_b76 N sN q8.2
theorem pX35_told_b44 {w : eW} {d : Nat} {dr : Nat} (hd : dr + 5 ≤ d + 1) (hdr : 12 ≤ dr) {N : Nat} {sN : Nat → eH → Option (Int32 × eH)} (hsN : ∀ a h q, sN a h = some q → wm w dr YX35_number [.ref a] h (e_is (e_rn c_I q))) {l0 : Nat} {l1 : Int32} {h : eH} {q} (hf : fX35_told_b44 N sN l0 l1 h = some q) : wp w (d + 1) YX35_told 44 [some (.ref l0), some (.int l1), none] [] h (e_is (e_rn c_V q)) := by
  unfold fX35_told_b44 at hf
  refine w_aload_n dX35_told_44 rfl rfl ?_
  refine w_iload_n dX35_told_45 rfl rfl ?_
  obtain ⟨_, b1, hf⟩ := Option.bind_eq_some_iff.mp hf
  refine x_cnI hf (e_stV (Yc := YX35_lengthOf) (ci := 34) (av := [.int l1]) (st := []) dX35_told_46 q5296 mX35_lengthOf rfl (k_ok_some b1).1 (k_ok_some b1).2) mX35_lengthOf.2.2.1 mX35_lengthOf.2.2.2.2.1 (Nat.le_of_ble_eq_true rfl) (Nat.le_of_ble_eq_true rfl) (fun q hq => pX35_lengthOf (by omega) hdr hsN hq) (fun q2 hf => ?_)
  refine w_istore_n dX35_told_49 rfl (by decide) (ls' := [some (.ref l0), some (.int l1), some (.int q2.1)]) rfl ?_
  refine w_aload_n dX35_told_50 rfl rfl ?_
  refine w_bipush dX35_told_51 (v := 112) (by decide) ?_
  obtain ⟨_, b3, hf⟩ := Option.bind_eq_some_iff.mp hf
  refine x_cnV hf (e_stV (Yc := YX35_putOther) (ci := 34) (av := [.int (112 : Int32)]) (st := []) dX35_told_53 q5213 mX35_putOther rfl (k_ok_some b3).1 (k_ok_some b3).2) mX35_putOther.2.2.1 mX35_putOther.2.2.2.2.1 (Nat.le_of_ble_eq_true rfl) (Nat.le_of_ble_eq_true rfl) (fun q hq => pX35_putOther (by omega) hq) (fun q4 hf => ?_)
  refine w_aload_n dX35_told_56 rfl rfl ?_
  refine w_bipush dX35_told_57 (v := 115) (by decide) ?_
  obtain ⟨_, b5, hf⟩ := Option.bind_eq_some_iff.mp hf
  refine x_cnV hf (e_stV (Yc := YX35_putOther) (ci := 34) (av := [.int (115 : Int32)]) (st := []) dX35_told_59 q5213 mX35_putOther rfl (k_ok_some b5).1 (k_ok_some b5).2) mX35_putOther.2.2.1 mX35_putOther.2.2.2.2.1 (Nat.le_of_ble_eq_true rfl) (Nat.le_of_ble_eq_true rfl) (fun q hq => pX35_putOther (by omega) hq) (fun q6 hf => ?_)
  refine w_aload_n dX35_told_62 rfl rfl ?_
  refine w_iload_n dX35_told_63 rfl rfl ?_
  obtain ⟨_, b7, hf⟩ := Option.bind_eq_some_iff.mp hf
  refine x_cnV hf (e_stV (Yc := YX35_putDigits) (ci := 34) (av := [.int q2.1]) (st := []) dX35_told_64 q5300 mX35_putDigits rfl (k_ok_some b7).1 (k_ok_some b7).2) mX35_putDigits.2.2.1 mX35_putDigits.2.2.2.2.1 (Nat.le_of_ble_eq_true rfl) (Nat.le_of_ble_eq_true rfl) (fun q hq => pX35_putDigits (by omega) hq) (fun q8 hf => ?_)
  refine w_goto 76 dX35_told_67 (by decide) ?_
  exact (pX35_told_b76 hd hdr hsN hf).to trivial
def fX35_told (N : Nat) (sN : Nat → eH → Option (Int32 × eH)) (this : Nat) (p0 : Int32) (h : eH) : Option (Unit × eH) :=
  (g_I 34 h this 46).bind fun x1 =>
  if x1 ≤ 0 then
    (k_ok 34 h this).bind fun _ =>
    (fX35_hasValue this p0 h).bind fun q5 =>
    if q5.1 = 0 then
      (k_ok 34 q5.2 this).bind fun _ =>
      (fX35_hasLength this p0 q5.2).bind fun q8 =>
      if ¬ q8.1 = 0 then
        fX35_told_b44 N sN this p0 q8.2
      else
        (k_ok 34 q8.2 this).bind fun _ =>
        (fX35_hasGlue this p0 q8.2).bind fun q11 =>
        if q11.1 = 0 then
          (k_ok 34 q11.2 this).bind fun _ =>
          (fX35_fail this (6 : Int32) q11.2).bind fun q14 =>
          fX35_told_b76 N sN q14.2
        else
          fX35_told_b44 N sN this p0 q11.2
    else
      (k_ok 34 q5.2 this).bind fun _ =>
      (fX35_value sN this p0 q5.2).bind fun q16 =>
      (k_ok 34 q16.2 this).bind fun _ =>
      (fX35_putDigits N this q16.1 q16.2).bind fun q18 =>
      fX35_told_b76 N sN q18.2
  else
    some ((), h)
theorem pX35_told {w : eW} {d : Nat} {dr : Nat} (hd : dr + 5 ≤ d) (hdr : 12 ≤ dr) {N : Nat} {sN : Nat → eH → Option (Int32 × eH)} (hsN : ∀ a h q, sN a h = some q → wm w dr YX35_number [.ref a] h (e_is (e_rn c_I q))) {this : Nat} {p0 : Int32} {h : eH} {q} (hf : fX35_told N sN this p0 h = some q) : wm w d YX35_told [.ref this, .int p0] h (e_is (e_rn c_V q)) := by
  obtain ⟨d, rfl⟩ : ∃ e, d = e + 1 := ⟨d - 1, by omega⟩
  show wp w (d + 1) YX35_told 0 [some (.ref this), some (.int p0), none] [] h _
  unfold fX35_told at hf
  refine w_aload_n dX35_told_0 rfl rfl ?_
  obtain ⟨x1, b2, hf⟩ := Option.bind_eq_some_iff.mp hf
  refine GX35_321 b2 dX35_told_1 rfl ?_
  refine w_if_le 8 dX35_told_4 (by decide) (fun c3 => ?_) (fun c3 => ?_)
  · replace hf := (if_pos (show x1 ≤ 0 from c3)).symm.trans hf
    refine w_aload_n dX35_told_8 rfl rfl ?_
    refine w_iload_n dX35_told_9 rfl rfl ?_
    obtain ⟨_, b4, hf⟩ := Option.bind_eq_some_iff.mp hf
    refine x_cnI hf (e_stV (Yc := YX35_hasValue) (ci := 34) (av := [.int p0]) (st := []) dX35_told_10 q5250 mX35_hasValue rfl (k_ok_some b4).1 (k_ok_some b4).2) mX35_hasValue.2.2.1 mX35_hasValue.2.2.2.2.1 (Nat.le_of_ble_eq_true rfl) (Nat.le_of_ble_eq_true rfl) (fun q hq => pX35_hasValue (by omega) hq) (fun q5 hf => ?_)
    refine w_if_eq 28 dX35_told_13 (by decide) (fun c6 => ?_) (fun c6 => ?_)
    · replace hf := (if_pos (show q5.1 = 0 from c6)).symm.trans hf
      refine w_aload_n dX35_told_28 rfl rfl ?_
      refine w_iload_n dX35_told_29 rfl rfl ?_
      obtain ⟨_, b7, hf⟩ := Option.bind_eq_some_iff.mp hf
      refine x_cnI hf (e_stV (Yc := YX35_hasLength) (ci := 34) (av := [.int p0]) (st := []) dX35_told_30 q5279 mX35_hasLength rfl (k_ok_some b7).1 (k_ok_some b7).2) mX35_hasLength.2.2.1 mX35_hasLength.2.2.2.2.1 (Nat.le_of_ble_eq_true rfl) (Nat.le_of_ble_eq_true rfl) (fun q hq => pX35_hasLength (by omega) hq) (fun q8 hf => ?_)
      refine w_if_ne 44 dX35_told_33 (by decide) (fun c9 => ?_) (fun c9 => ?_)
      · replace hf := (if_pos (show ¬ q8.1 = 0 from c9)).symm.trans hf
        exact (pX35_told_b44 hd hdr hsN hf).to ⟨rfl, rfl, trivial⟩
      · replace hf := (if_neg (show ¬ (¬ q8.1 = 0) from (fun z => z c9))).symm.trans hf
        refine w_aload_n dX35_told_36 rfl rfl ?_
        refine w_iload_n dX35_told_37 rfl rfl ?_
        obtain ⟨_, b10, hf⟩ := Option.bind_eq_some_iff.mp hf
        refine x_cnI hf (e_stV (Yc := YX35_hasGlue) (ci := 34) (av := [.int p0]) (st := []) dX35_told_38 q5289 mX35_hasGlue rfl (k_ok_some b10).1 (k_ok_some b10).2) mX35_hasGlue.2.2.1 mX35_hasGlue.2.2.2.2.1 (Nat.le_of_ble_eq_true rfl) (Nat.le_of_ble_eq_true rfl) (fun q hq => pX35_hasGlue (by omega) hq) (fun q11 hf => ?_)
        refine w_if_eq 70 dX35_told_41 (by decide) (fun c12 => ?_) (fun c12 => ?_)
        · replace hf := (if_pos (show q11.1 = 0 from c12)).symm.trans hf
          refine w_aload_n dX35_told_70 rfl rfl ?_
          refine w_bipush dX35_told_71 (v := 6) (by decide) ?_
          obtain ⟨_, b13, hf⟩ := Option.bind_eq_some_iff.mp hf
          refine x_cnV hf (e_stV (Yc := YX35_fail) (ci := 34) (av := [.int (6 : Int32)]) (st := []) dX35_told_73 q5109 mX35_fail rfl (k_ok_some b13).1 (k_ok_some b13).2) mX35_fail.2.2.1 mX35_fail.2.2.2.2.1 (Nat.le_of_ble_eq_true rfl) (Nat.le_of_ble_eq_true rfl) (fun q hq => pX35_fail (by omega) hq) (fun q14 hf => ?_)
          exact (pX35_told_b76 hd hdr hsN hf).to trivial
        · replace hf := (if_neg (show ¬ (q11.1 = 0) from c12)).symm.trans hf
          exact (pX35_told_b44 hd hdr hsN hf).to ⟨rfl, rfl, trivial⟩
    · replace hf := (if_neg (show ¬ (q5.1 = 0) from c6)).symm.trans hf
      refine w_aload_n dX35_told_16 rfl rfl ?_
      refine w_aload_n dX35_told_17 rfl rfl ?_
      refine w_iload_n dX35_told_18 rfl rfl ?_
      obtain ⟨_, b15, hf⟩ := Option.bind_eq_some_iff.mp hf
      refine x_cnI hf (e_stV (Yc := YX35_value) (ci := 34) (av := [.int p0]) (st := [.ref this]) dX35_told_19 q5267 mX35_value rfl (k_ok_some b15).1 (k_ok_some b15).2) mX35_value.2.2.1 mX35_value.2.2.2.2.1 (Nat.le_of_ble_eq_true rfl) (Nat.le_of_ble_eq_true rfl) (fun q hq => pX35_value (by omega) hdr hsN hq) (fun q16 hf => ?_)
      obtain ⟨_, b17, hf⟩ := Option.bind_eq_some_iff.mp hf
      refine x_cnV hf (e_stV (Yc := YX35_putDigits) (ci := 34) (av := [.int q16.1]) (st := []) dX35_told_22 q5300 mX35_putDigits rfl (k_ok_some b17).1 (k_ok_some b17).2) mX35_putDigits.2.2.1 mX35_putDigits.2.2.2.2.1 (Nat.le_of_ble_eq_true rfl) (Nat.le_of_ble_eq_true rfl) (fun q hq => pX35_putDigits (by omega) hq) (fun q18 hf => ?_)
      refine w_goto 76 dX35_told_25 (by decide) ?_
      exact (pX35_told_b76 hd hdr hsN hf).to trivial
  · replace hf := (if_neg (show ¬ (x1 ≤ 0) from c3)).symm.trans hf
    cases hf
    exact w_vret dX35_told_7 rfl rfl
abbrev cX35_primitive : ByteArray := prog_37_method_43_code
def yX35_primitive : MethodName := ⟨RX35, "primitive", "(II)V"⟩
def YX35_primitive : eY := (yX35_primitive, cX35_primitive, 6, none, [])
theorem mX35_primitive : e_mv YX35_primitive RX35 2 := ⟨q5187, qs259, q5188, by decide, by decide +kernel, (e_sig (by decide +kernel))⟩
theorem dX35_primitive_0 : decode cX35_primitive 0 = .ok (.iload_n 2, 1) := dc_28 (by decide +kernel)
theorem dX35_primitive_1 : decode cX35_primitive 1 = .ok (.tableswitch 239 0 21 #[103, 146, 179, 186, 197, 208, 219, 239, 239, 239, 239, 239, 239, 239, 239, 239, 239, 239, 239, 230, 230, 230], 103) := by decide +kernel
theorem dX35_primitive_104 : decode cX35_primitive 104 = .ok (.aload_n 0, 1) := dc_42 (by decide +kernel)
theorem dX35_primitive_105 : decode cX35_primitive 105 = .ok (.invokevirtual 506, 3) := dc_182 (a := 1) (b := 250) (n := 506) (by decide +kernel)
theorem dX35_primitive_108 : decode cX35_primitive 108 = .ok (.istore_n 3, 1) := dc_62 (by decide +kernel)
theorem dX35_primitive_109 : decode cX35_primitive 109 = .ok (.aload_n 0, 1) := dc_42 (by decide +kernel)
theorem dX35_primitive_110 : decode cX35_primitive 110 = .ok (.invokevirtual 506, 3) := dc_182 (a := 1) (b := 250) (n := 506) (by decide +kernel)
theorem dX35_primitive_113 : decode cX35_primitive 113 = .ok (.istore 4, 2) := dc_54 (a := 4) (by decide +kernel)
theorem dX35_primitive_115 : decode cX35_primitive 115 = .ok (.aload_n 0, 1) := dc_42 (by decide +kernel)
theorem dX35_primitive_116 : decode cX35_primitive 116 = .ok (.iload 4, 2) := dc_21 (a := 4) (by decide +kernel)
theorem dX35_primitive_118 : decode cX35_primitive 118 = .ok (.invokevirtual 481, 3) := dc_182 (a := 1) (b := 225) (n := 481) (by decide +kernel)
theorem dX35_primitive_121 : decode cX35_primitive 121 = .ok (.ifCond .eq 12, 3) := dc_153 (a := 0) (b := 12) (v := 12) (by decide +kernel)
theorem dX35_primitive_124 : decode cX35_primitive 124 = .ok (.aload_n 0, 1) := dc_42 (by decide +kernel)
theorem dX35_primitive_125 : decode cX35_primitive 125 = .ok (.iload 4, 2) := dc_21 (a := 4) (by decide +kernel)
theorem dX35_primitive_127 : decode cX35_primitive 127 = .ok (.invokevirtual 484, 3) := dc_182 (a := 1) (b := 228) (n := 484) (by decide +kernel)
theorem dX35_primitive_130 : decode cX35_primitive 130 = .ok (.goto 9, 3) := dc_167 (a := 0) (b := 9) (v := 9) (by decide +kernel)
theorem dX35_primitive_133 : decode cX35_primitive 133 = .ok (.aload_n 0, 1) := dc_42 (by decide +kernel)
theorem dX35_primitive_134 : decode cX35_primitive 134 = .ok (.iload 4, 2) := dc_21 (a := 4) (by decide +kernel)
theorem dX35_primitive_136 : decode cX35_primitive 136 = .ok (.invokevirtual 509, 3) := dc_182 (a := 1) (b := 253) (n := 509) (by decide +kernel)
theorem dX35_primitive_139 : decode cX35_primitive 139 = .ok (.aload_n 0, 1) := dc_42 (by decide +kernel)
theorem dX35_primitive_140 : decode cX35_primitive 140 = .ok (.iload_n 3, 1) := dc_29 (by decide +kernel)
theorem dX35_primitive_141 : decode cX35_primitive 141 = .ok (.invokevirtual 509, 3) := dc_182 (a := 1) (b := 253) (n := 509) (by decide +kernel)
theorem dX35_primitive_144 : decode cX35_primitive 144 = .ok (.goto 101, 3) := dc_167 (a := 0) (b := 101) (v := 101) (by decide +kernel)
theorem dX35_primitive_147 : decode cX35_primitive 147 = .ok (.aload_n 0, 1) := dc_42 (by decide +kernel)
theorem dX35_primitive_148 : decode cX35_primitive 148 = .ok (.invokevirtual 506, 3) := dc_182 (a := 1) (b := 250) (n := 506) (by decide +kernel)
theorem dX35_primitive_151 : decode cX35_primitive 151 = .ok (.istore 5, 2) := dc_54 (a := 5) (by decide +kernel)
theorem dX35_primitive_153 : decode cX35_primitive 153 = .ok (.aload_n 0, 1) := dc_42 (by decide +kernel)
theorem dX35_primitive_154 : decode cX35_primitive 154 = .ok (.aload_n 0, 1) := dc_42 (by decide +kernel)
theorem dX35_primitive_155 : decode cX35_primitive 155 = .ok (.iload 5, 2) := dc_21 (a := 5) (by decide +kernel)
theorem dX35_primitive_157 : decode cX35_primitive 157 = .ok (.invokevirtual 481, 3) := dc_182 (a := 1) (b := 225) (n := 481) (by decide +kernel)
theorem dX35_primitive_160 : decode cX35_primitive 160 = .ok (.ifCond .eq 12, 3) := dc_153 (a := 0) (b := 12) (v := 12) (by decide +kernel)
theorem dX35_primitive_163 : decode cX35_primitive 163 = .ok (.iload 5, 2) := dc_21 (a := 5) (by decide +kernel)
theorem dX35_primitive_165 : decode cX35_primitive 165 = .ok (.ldc_w 463, 3) := dc_19 (a := 1) (b := 207) (n := 463) (by decide +kernel)
theorem dX35_primitive_168 : decode cX35_primitive 168 = .ok (.iadd, 1) := dc_96 (by decide +kernel)
theorem dX35_primitive_169 : decode cX35_primitive 169 = .ok (.goto 5, 3) := dc_167 (a := 0) (b := 5) (v := 5) (by decide +kernel)
theorem dX35_primitive_172 : decode cX35_primitive 172 = .ok (.iload 5, 2) := dc_21 (a := 5) (by decide +kernel)
theorem dX35_primitive_174 : decode cX35_primitive 174 = .ok (.invokevirtual 509, 3) := dc_182 (a := 1) (b := 253) (n := 509) (by decide +kernel)
theorem dX35_primitive_177 : decode cX35_primitive 177 = .ok (.goto 68, 3) := dc_167 (a := 0) (b := 68) (v := 68) (by decide +kernel)
theorem dX35_primitive_180 : decode cX35_primitive 180 = .ok (.aload_n 0, 1) := dc_42 (by decide +kernel)
theorem dX35_primitive_181 : decode cX35_primitive 181 = .ok (.invokevirtual 512, 3) := dc_182 (a := 2) (b := 0) (n := 512) (by decide +kernel)
theorem dX35_primitive_184 : decode cX35_primitive 184 = .ok (.goto 61, 3) := dc_167 (a := 0) (b := 61) (v := 61) (by decide +kernel)
theorem dX35_primitive_187 : decode cX35_primitive 187 = .ok (.aload_n 0, 1) := dc_42 (by decide +kernel)
theorem dX35_primitive_188 : decode cX35_primitive 188 = .ok (.aload_n 0, 1) := dc_42 (by decide +kernel)
theorem dX35_primitive_189 : decode cX35_primitive 189 = .ok (.invokevirtual 506, 3) := dc_182 (a := 1) (b := 250) (n := 506) (by decide +kernel)
theorem dX35_primitive_192 : decode cX35_primitive 192 = .ok (.invokevirtual 515, 3) := dc_182 (a := 2) (b := 3) (n := 515) (by decide +kernel)
theorem dX35_primitive_195 : decode cX35_primitive 195 = .ok (.goto 50, 3) := dc_167 (a := 0) (b := 50) (v := 50) (by decide +kernel)
theorem dX35_primitive_198 : decode cX35_primitive 198 = .ok (.aload_n 0, 1) := dc_42 (by decide +kernel)
theorem dX35_primitive_199 : decode cX35_primitive 199 = .ok (.aload_n 0, 1) := dc_42 (by decide +kernel)
theorem dX35_primitive_200 : decode cX35_primitive 200 = .ok (.invokevirtual 518, 3) := dc_182 (a := 2) (b := 6) (n := 518) (by decide +kernel)
theorem dX35_primitive_203 : decode cX35_primitive 203 = .ok (.invokevirtual 521, 3) := dc_182 (a := 2) (b := 9) (n := 521) (by decide +kernel)
theorem dX35_primitive_206 : decode cX35_primitive 206 = .ok (.goto 39, 3) := dc_167 (a := 0) (b := 39) (v := 39) (by decide +kernel)
theorem dX35_primitive_209 : decode cX35_primitive 209 = .ok (.aload_n 0, 1) := dc_42 (by decide +kernel)
theorem dX35_primitive_210 : decode cX35_primitive 210 = .ok (.aload_n 0, 1) := dc_42 (by decide +kernel)
theorem dX35_primitive_211 : decode cX35_primitive 211 = .ok (.invokevirtual 518, 3) := dc_182 (a := 2) (b := 6) (n := 518) (by decide +kernel)
theorem dX35_primitive_214 : decode cX35_primitive 214 = .ok (.invokevirtual 524, 3) := dc_182 (a := 2) (b := 12) (n := 524) (by decide +kernel)
theorem dX35_primitive_217 : decode cX35_primitive 217 = .ok (.goto 28, 3) := dc_167 (a := 0) (b := 28) (v := 28) (by decide +kernel)
theorem dX35_primitive_220 : decode cX35_primitive 220 = .ok (.aload_n 0, 1) := dc_42 (by decide +kernel)
theorem dX35_primitive_221 : decode cX35_primitive 221 = .ok (.aload_n 0, 1) := dc_42 (by decide +kernel)
theorem dX35_primitive_222 : decode cX35_primitive 222 = .ok (.invokevirtual 490, 3) := dc_182 (a := 1) (b := 234) (n := 490) (by decide +kernel)
theorem dX35_primitive_225 : decode cX35_primitive 225 = .ok (.invokevirtual 527, 3) := dc_182 (a := 2) (b := 15) (n := 527) (by decide +kernel)
theorem dX35_primitive_228 : decode cX35_primitive 228 = .ok (.goto 17, 3) := dc_167 (a := 0) (b := 17) (v := 17) (by decide +kernel)
theorem dX35_primitive_231 : decode cX35_primitive 231 = .ok (.aload_n 0, 1) := dc_42 (by decide +kernel)
theorem dX35_primitive_232 : decode cX35_primitive 232 = .ok (.iload_n 1, 1) := dc_27 (by decide +kernel)
theorem dX35_primitive_233 : decode cX35_primitive 233 = .ok (.iload_n 2, 1) := dc_28 (by decide +kernel)
theorem dX35_primitive_234 : decode cX35_primitive 234 = .ok (.invokevirtual 530, 3) := dc_182 (a := 2) (b := 18) (n := 530) (by decide +kernel)
theorem dX35_primitive_237 : decode cX35_primitive 237 = .ok (.goto 8, 3) := dc_167 (a := 0) (b := 8) (v := 8) (by decide +kernel)
theorem dX35_primitive_240 : decode cX35_primitive 240 = .ok (.aload_n 0, 1) := dc_42 (by decide +kernel)
theorem dX35_primitive_241 : decode cX35_primitive 241 = .ok (.iload_n 2, 1) := dc_28 (by decide +kernel)
theorem dX35_primitive_242 : decode cX35_primitive 242 = .ok (.invokevirtual 533, 3) := dc_182 (a := 2) (b := 21) (n := 533) (by decide +kernel)
theorem dX35_primitive_245 : decode cX35_primitive 245 = .ok (.return_, 1) := dc_177 (by decide +kernel)
def fX35_primitive_b245 (N : Nat) (sE : Nat → Int32 → eH → Option (Unit × eH)) (sN : Nat → eH → Option (Int32 × eH))  (h : eH) : Option (Unit × eH) :=
  some ((), h)
theorem pX35_primitive_b245 {w : eW} {d : Nat} {dr : Nat} (hd : dr + 13 ≤ d + 1) (hdr : 12 ≤ dr) {N : Nat} {sE : Nat → Int32 → eH → Option (Unit × eH)} {sN : Nat → eH → Option (Int32 × eH)} (hsE : ∀ a t0 h q, sE a t0 h = some q → wm w dr YX35_expand [.ref a, .int t0] h (e_is (e_rn c_V q))) (hsN : ∀ a h q, sN a h = some q → wm w dr YX35_number [.ref a] h (e_is (e_rn c_I q)))  {h : eH} {q} (hf : fX35_primitive_b245 N sE sN h = some q) : wp w (d + 1) YX35_primitive 245 [none, none, none, none, none, none] [] h (e_is (e_rn c_V q)) := by
  unfold fX35_primitive_b245 at hf
  cases hf
  exact w_vret dX35_primitive_245 rfl rfl
def fX35_primitive_b139 (N : Nat) (sE : Nat → Int32 → eH → Option (Unit × eH)) (sN : Nat → eH → Option (Int32 × eH)) (l0 : Nat) (l3 : Int32) (h : eH) : Option (Unit × eH) :=
  (k_ok 34 h l0).bind fun _ =>
  (fX35_put l0 l3 h).bind fun q2 =>
  fX35_primitive_b245 N sE sN q2.2
theorem pX35_primitive_b139 {w : eW} {d : Nat} {dr : Nat} (hd : dr + 13 ≤ d + 1) (hdr : 12 ≤ dr) {N : Nat} {sE : Nat → Int32 → eH → Option (Unit × eH)} {sN : Nat → eH → Option (Int32 × eH)} (hsE : ∀ a t0 h q, sE a t0 h = some q → wm w dr YX35_expand [.ref a, .int t0] h (e_is (e_rn c_V q))) (hsN : ∀ a h q, sN a h = some q → wm w dr YX35_number [.ref a] h (e_is (e_rn c_I q))) {l0 : Nat} {l3 : Int32} {h : eH} {q} (hf : fX35_primitive_b139 N sE sN l0 l3 h = some q) : wp w (d + 1) YX35_primitive 139 [some (.ref l0), none, none, some (.int l3), none, none] [] h (e_is (e_rn c_V q)) := by
  unfold fX35_primitive_b139 at hf
  refine w_aload_n dX35_primitive_139 rfl rfl ?_
  refine w_iload_n dX35_primitive_140 rfl rfl ?_
  obtain ⟨_, b1, hf⟩ := Option.bind_eq_some_iff.mp hf
  refine x_cnV hf (e_stV (Yc := YX35_put) (ci := 34) (av := [.int l3]) (st := []) dX35_primitive_141 q5181 mX35_put rfl (k_ok_some b1).1 (k_ok_some b1).2) mX35_put.2.2.1 mX35_put.2.2.2.2.1 (Nat.le_of_ble_eq_true rfl) (Nat.le_of_ble_eq_true rfl) (fun q hq => pX35_put (by omega) hq) (fun q2 hf => ?_)
  refine w_goto 245 dX35_primitive_144 (by decide) ?_
  exact (pX35_primitive_b245 hd hdr hsE hsN hf).to trivial
def fX35_primitive_b174 (N : Nat) (sE : Nat → Int32 → eH → Option (Unit × eH)) (sN : Nat → eH → Option (Int32 × eH)) (s0 : Nat) (s1 : Int32) (h : eH) : Option (Unit × eH) :=
  (k_ok 34 h s0).bind fun _ =>
  (fX35_put s0 s1 h).bind fun q2 =>
  fX35_primitive_b245 N sE sN q2.2
theorem pX35_primitive_b174 {w : eW} {d : Nat} {dr : Nat} (hd : dr + 13 ≤ d + 1) (hdr : 12 ≤ dr) {N : Nat} {sE : Nat → Int32 → eH → Option (Unit × eH)} {sN : Nat → eH → Option (Int32 × eH)} (hsE : ∀ a t0 h q, sE a t0 h = some q → wm w dr YX35_expand [.ref a, .int t0] h (e_is (e_rn c_V q))) (hsN : ∀ a h q, sN a h = some q → wm w dr YX35_number [.ref a] h (e_is (e_rn c_I q))) {s0 : Nat} {s1 : Int32} {h : eH} {q} (hf : fX35_primitive_b174 N sE sN s0 s1 h = some q) : wp w (d + 1) YX35_primitive 174 [none, none, none, none, none, none] [.int s1, .ref s0] h (e_is (e_rn c_V q)) := by
  unfold fX35_primitive_b174 at hf
  obtain ⟨_, b1, hf⟩ := Option.bind_eq_some_iff.mp hf
  refine x_cnV hf (e_stV (Yc := YX35_put) (ci := 34) (av := [.int s1]) (st := []) dX35_primitive_174 q5181 mX35_put rfl (k_ok_some b1).1 (k_ok_some b1).2) mX35_put.2.2.1 mX35_put.2.2.2.2.1 (Nat.le_of_ble_eq_true rfl) (Nat.le_of_ble_eq_true rfl) (fun q hq => pX35_put (by omega) hq) (fun q2 hf => ?_)
  refine w_goto 245 dX35_primitive_177 (by decide) ?_
  exact (pX35_primitive_b245 hd hdr hsE hsN hf).to trivial
def fX35_primitive (N : Nat) (sE : Nat → Int32 → eH → Option (Unit × eH)) (sN : Nat → eH → Option (Int32 × eH)) (this : Nat) (p0 : Int32) (p1 : Int32) (h : eH) : Option (Unit × eH) :=
  if p1 = (0 : Int32) then
    (k_ok 34 h this).bind fun _ =>
    (fX35_need N this h).bind fun q3 =>
    (k_ok 34 q3.2 this).bind fun _ =>
    (fX35_need N this q3.2).bind fun q5 =>
    (k_ok 34 q5.2 this).bind fun _ =>
    (fX35_isExpandable this q5.1 q5.2).bind fun q7 =>
    if q7.1 = 0 then
      (k_ok 34 q7.2 this).bind fun _ =>
      (fX35_put this q5.1 q7.2).bind fun q10 =>
      fX35_primitive_b139 N sE sN this q3.1 q10.2
    else
      (k_ok 34 q7.2 this).bind fun _ =>
      (sE this q5.1 q7.2).bind fun q12 =>
      fX35_primitive_b139 N sE sN this q3.1 q12.2
  else
  if p1 = (1 : Int32) then
    (k_ok 34 h this).bind fun _ =>
    (fX35_need N this h).bind fun q15 =>
    (k_ok 34 q15.2 this).bind fun _ =>
    (fX35_isExpandable this q15.1 q15.2).bind fun q17 =>
    if q17.1 = 0 then
      fX35_primitive_b174 N sE sN this q15.1 q17.2
    else
      fX35_primitive_b174 N sE sN this (q15.1 + (524288 : Int32)) q17.2
  else
  if p1 = (2 : Int32) then
    (k_ok 34 h this).bind fun _ =>
    (fX35_makeName N sE this h).bind fun q21 =>
    fX35_primitive_b245 N sE sN q21.2
  else
  if p1 = (3 : Int32) then
    (k_ok 34 h this).bind fun _ =>
    (fX35_need N this h).bind fun q24 =>
    (k_ok 34 q24.2 this).bind fun _ =>
    (fX35_spellOut N this q24.1 q24.2).bind fun q26 =>
    fX35_primitive_b245 N sE sN q26.2
  else
  if p1 = (4 : Int32) then
    (k_ok 34 h this).bind fun _ =>
    (sN this h).bind fun q29 =>
    (k_ok 34 q29.2 this).bind fun _ =>
    (fX35_putDigits N this q29.1 q29.2).bind fun q31 =>
    fX35_primitive_b245 N sE sN q31.2
  else
  if p1 = (5 : Int32) then
    (k_ok 34 h this).bind fun _ =>
    (sN this h).bind fun q34 =>
    (k_ok 34 q34.2 this).bind fun _ =>
    (fX35_roman N this q34.1 q34.2).bind fun q36 =>
    fX35_primitive_b245 N sE sN q36.2
  else
  if p1 = (6 : Int32) then
    (k_ok 34 h this).bind fun _ =>
    (fX35_needExpanded N sE this h).bind fun q39 =>
    (k_ok 34 q39.2 this).bind fun _ =>
    (fX35_told N sN this q39.1 q39.2).bind fun q41 =>
    fX35_primitive_b245 N sE sN q41.2
  else
  if p1 = (7 : Int32) then
    (k_ok 34 h this).bind fun _ =>
    (fX35_condition N sE sN this p1 h).bind fun q44 =>
    fX35_primitive_b245 N sE sN q44.2
  else
  if p1 = (8 : Int32) then
    (k_ok 34 h this).bind fun _ =>
    (fX35_condition N sE sN this p1 h).bind fun q47 =>
    fX35_primitive_b245 N sE sN q47.2
  else
  if p1 = (9 : Int32) then
    (k_ok 34 h this).bind fun _ =>
    (fX35_condition N sE sN this p1 h).bind fun q50 =>
    fX35_primitive_b245 N sE sN q50.2
  else
  if p1 = (10 : Int32) then
    (k_ok 34 h this).bind fun _ =>
    (fX35_condition N sE sN this p1 h).bind fun q53 =>
    fX35_primitive_b245 N sE sN q53.2
  else
  if p1 = (11 : Int32) then
    (k_ok 34 h this).bind fun _ =>
    (fX35_condition N sE sN this p1 h).bind fun q56 =>
    fX35_primitive_b245 N sE sN q56.2
  else
  if p1 = (12 : Int32) then
    (k_ok 34 h this).bind fun _ =>
    (fX35_condition N sE sN this p1 h).bind fun q59 =>
    fX35_primitive_b245 N sE sN q59.2
  else
  if p1 = (13 : Int32) then
    (k_ok 34 h this).bind fun _ =>
    (fX35_condition N sE sN this p1 h).bind fun q62 =>
    fX35_primitive_b245 N sE sN q62.2
  else
  if p1 = (14 : Int32) then
    (k_ok 34 h this).bind fun _ =>
    (fX35_condition N sE sN this p1 h).bind fun q65 =>
    fX35_primitive_b245 N sE sN q65.2
  else
  if p1 = (15 : Int32) then
    (k_ok 34 h this).bind fun _ =>
    (fX35_condition N sE sN this p1 h).bind fun q68 =>
    fX35_primitive_b245 N sE sN q68.2
  else
  if p1 = (16 : Int32) then
    (k_ok 34 h this).bind fun _ =>
    (fX35_condition N sE sN this p1 h).bind fun q71 =>
    fX35_primitive_b245 N sE sN q71.2
  else
  if p1 = (17 : Int32) then
    (k_ok 34 h this).bind fun _ =>
    (fX35_condition N sE sN this p1 h).bind fun q74 =>
    fX35_primitive_b245 N sE sN q74.2
  else
  if p1 = (18 : Int32) then
    (k_ok 34 h this).bind fun _ =>
    (fX35_condition N sE sN this p1 h).bind fun q77 =>
    fX35_primitive_b245 N sE sN q77.2
  else
  if p1 = (19 : Int32) then
    (k_ok 34 h this).bind fun _ =>
    (fX35_branch N this p0 p1 h).bind fun q80 =>
    fX35_primitive_b245 N sE sN q80.2
  else
  if p1 = (20 : Int32) then
    (k_ok 34 h this).bind fun _ =>
    (fX35_branch N this p0 p1 h).bind fun q83 =>
    fX35_primitive_b245 N sE sN q83.2
  else
  if p1 = (21 : Int32) then
    (k_ok 34 h this).bind fun _ =>
    (fX35_branch N this p0 p1 h).bind fun q86 =>
    fX35_primitive_b245 N sE sN q86.2
  else
  (k_ok 34 h this).bind fun _ =>
  (fX35_condition N sE sN this p1 h).bind fun q88 =>
  fX35_primitive_b245 N sE sN q88.2
theorem pX35_primitive {w : eW} {d : Nat} {dr : Nat} (hd : dr + 13 ≤ d) (hdr : 12 ≤ dr) {N : Nat} {sE : Nat → Int32 → eH → Option (Unit × eH)} {sN : Nat → eH → Option (Int32 × eH)} (hsE : ∀ a t0 h q, sE a t0 h = some q → wm w dr YX35_expand [.ref a, .int t0] h (e_is (e_rn c_V q))) (hsN : ∀ a h q, sN a h = some q → wm w dr YX35_number [.ref a] h (e_is (e_rn c_I q))) {this : Nat} {p0 : Int32} {p1 : Int32} {h : eH} {q} (hf : fX35_primitive N sE sN this p0 p1 h = some q) : wm w d YX35_primitive [.ref this, .int p0, .int p1] h (e_is (e_rn c_V q)) := by
  obtain ⟨d, rfl⟩ : ∃ e, d = e + 1 := ⟨d - 1, by omega⟩
  show wp w (d + 1) YX35_primitive 0 [some (.ref this), some (.int p0), some (.int p1), none, none, none] [] h _
  unfold fX35_primitive at hf
  refine w_iload_n dX35_primitive_0 rfl rfl ?_
  by_cases c1 : p1 = (0 : Int32)
  · replace hf := (if_pos c1).symm.trans hf
    refine w_tableIn 104 dX35_primitive_1 (by rw [c1]; decide) (by rw [c1]; decide) (by rw [c1]; rfl) (by decide) ?_
    refine w_aload_n dX35_primitive_104 rfl rfl ?_
    obtain ⟨_, b2, hf⟩ := Option.bind_eq_some_iff.mp hf
    refine x_cnI hf (e_stV (Yc := YX35_need) (ci := 34) (av := []) (st := []) dX35_primitive_105 q5154 mX35_need rfl (k_ok_some b2).1 (k_ok_some b2).2) mX35_need.2.2.1 mX35_need.2.2.2.2.1 (Nat.le_of_ble_eq_true rfl) (Nat.le_of_ble_eq_true rfl) (fun q hq => pX35_need (by omega) hq) (fun q3 hf => ?_)
    refine w_istore_n dX35_primitive_108 rfl (by decide) (ls' := [some (.ref this), some (.int p0), some (.int p1), some (.int q3.1), none, none]) rfl ?_
    refine w_aload_n dX35_primitive_109 rfl rfl ?_
    obtain ⟨_, b4, hf⟩ := Option.bind_eq_some_iff.mp hf
    refine x_cnI hf (e_stV (Yc := YX35_need) (ci := 34) (av := []) (st := []) dX35_primitive_110 q5154 mX35_need rfl (k_ok_some b4).1 (k_ok_some b4).2) mX35_need.2.2.1 mX35_need.2.2.2.2.1 (Nat.le_of_ble_eq_true rfl) (Nat.le_of_ble_eq_true rfl) (fun q hq => pX35_need (by omega) hq) (fun q5 hf => ?_)
    refine w_istore dX35_primitive_113 (by decide) (ls' := [some (.ref this), some (.int p0), some (.int p1), some (.int q3.1), some (.int q5.1), none]) rfl ?_
    refine w_aload_n dX35_primitive_115 rfl rfl ?_
    refine w_iload dX35_primitive_116 rfl ?_
    obtain ⟨_, b6, hf⟩ := Option.bind_eq_some_iff.mp hf
    refine x_cnI hf (e_stV (Yc := YX35_isExpandable) (ci := 34) (av := [.int q5.1]) (st := []) dX35_primitive_118 q5119 mX35_isExpandable rfl (k_ok_some b6).1 (k_ok_some b6).2) mX35_isExpandable.2.2.1 mX35_isExpandable.2.2.2.2.1 (Nat.le_of_ble_eq_true rfl) (Nat.le_of_ble_eq_true rfl) (fun q hq => pX35_isExpandable (by omega) hq) (fun q7 hf => ?_)
    refine w_if_eq 133 dX35_primitive_121 (by decide) (fun c8 => ?_) (fun c8 => ?_)
    · replace hf := (if_pos (show q7.1 = 0 from c8)).symm.trans hf
      refine w_aload_n dX35_primitive_133 rfl rfl ?_
      refine w_iload dX35_primitive_134 rfl ?_
      obtain ⟨_, b9, hf⟩ := Option.bind_eq_some_iff.mp hf
      refine x_cnV hf (e_stV (Yc := YX35_put) (ci := 34) (av := [.int q5.1]) (st := []) dX35_primitive_136 q5181 mX35_put rfl (k_ok_some b9).1 (k_ok_some b9).2) mX35_put.2.2.1 mX35_put.2.2.2.2.1 (Nat.le_of_ble_eq_true rfl) (Nat.le_of_ble_eq_true rfl) (fun q hq => pX35_put (by omega) hq) (fun q10 hf => ?_)
      exact (pX35_primitive_b139 hd hdr hsE hsN hf).to ⟨rfl, rfl, trivial⟩
    · replace hf := (if_neg (show ¬ (q7.1 = 0) from c8)).symm.trans hf
      refine w_aload_n dX35_primitive_124 rfl rfl ?_
      refine w_iload dX35_primitive_125 rfl ?_
      obtain ⟨_, b11, hf⟩ := Option.bind_eq_some_iff.mp hf
      refine x_cnV hf (e_stV (Yc := YX35_expand) (ci := 34) (av := [.int q5.1]) (st := []) dX35_primitive_127 q5142 mX35_expand rfl (k_ok_some b11).1 (k_ok_some b11).2) mX35_expand.2.2.1 mX35_expand.2.2.2.2.1 (Nat.le_of_ble_eq_true rfl) (Nat.le_of_ble_eq_true rfl) (fun q hq => (hsE _ _ _ _ hq).up (by omega)) (fun q12 hf => ?_)
      refine w_goto 139 dX35_primitive_130 (by decide) ?_
      exact (pX35_primitive_b139 hd hdr hsE hsN hf).to ⟨rfl, rfl, trivial⟩
  replace hf := (if_neg c1).symm.trans hf
  by_cases c13 : p1 = (1 : Int32)
  · replace hf := (if_pos c13).symm.trans hf
    refine w_tableIn 147 dX35_primitive_1 (by rw [c13]; decide) (by rw [c13]; decide) (by rw [c13]; rfl) (by decide) ?_
    refine w_aload_n dX35_primitive_147 rfl rfl ?_
    obtain ⟨_, b14, hf⟩ := Option.bind_eq_some_iff.mp hf
    refine x_cnI hf (e_stV (Yc := YX35_need) (ci := 34) (av := []) (st := []) dX35_primitive_148 q5154 mX35_need rfl (k_ok_some b14).1 (k_ok_some b14).2) mX35_need.2.2.1 mX35_need.2.2.2.2.1 (Nat.le_of_ble_eq_true rfl) (Nat.le_of_ble_eq_true rfl) (fun q hq => pX35_need (by omega) hq) (fun q15 hf => ?_)
    refine w_istore dX35_primitive_151 (by decide) (ls' := [some (.ref this), some (.int p0), some (.int p1), none, none, some (.int q15.1)]) rfl ?_
    refine w_aload_n dX35_primitive_153 rfl rfl ?_
    refine w_aload_n dX35_primitive_154 rfl rfl ?_
    refine w_iload dX35_primitive_155 rfl ?_
    obtain ⟨_, b16, hf⟩ := Option.bind_eq_some_iff.mp hf
    refine x_cnI hf (e_stV (Yc := YX35_isExpandable) (ci := 34) (av := [.int q15.1]) (st := [.ref this]) dX35_primitive_157 q5119 mX35_isExpandable rfl (k_ok_some b16).1 (k_ok_some b16).2) mX35_isExpandable.2.2.1 mX35_isExpandable.2.2.2.2.1 (Nat.le_of_ble_eq_true rfl) (Nat.le_of_ble_eq_true rfl) (fun q hq => pX35_isExpandable (by omega) hq) (fun q17 hf => ?_)
    refine w_if_eq 172 dX35_primitive_160 (by decide) (fun c18 => ?_) (fun c18 => ?_)
    · replace hf := (if_pos (show q17.1 = 0 from c18)).symm.trans hf
      refine w_iload dX35_primitive_172 rfl ?_
      exact (pX35_primitive_b174 hd hdr hsE hsN hf).to trivial
    · replace hf := (if_neg (show ¬ (q17.1 = 0) from c18)).symm.trans hf
      refine w_iload dX35_primitive_163 rfl ?_
      refine w_ldc_w dX35_primitive_165 q5126 ?_
      refine w_iadd dX35_primitive_168 ?_
      refine w_goto 174 dX35_primitive_169 (by decide) ?_
      exact (pX35_primitive_b174 hd hdr hsE hsN hf).to trivial
  replace hf := (if_neg c13).symm.trans hf
  by_cases c19 : p1 = (2 : Int32)
  · replace hf := (if_pos c19).symm.trans hf
    refine w_tableIn 180 dX35_primitive_1 (by rw [c19]; decide) (by rw [c19]; decide) (by rw [c19]; rfl) (by decide) ?_
    refine w_aload_n dX35_primitive_180 rfl rfl ?_
    obtain ⟨_, b20, hf⟩ := Option.bind_eq_some_iff.mp hf
    refine x_cnV hf (e_stV (Yc := YX35_makeName) (ci := 34) (av := []) (st := []) dX35_primitive_181 q5189 mX35_makeName rfl (k_ok_some b20).1 (k_ok_some b20).2) mX35_makeName.2.2.1 mX35_makeName.2.2.2.2.1 (Nat.le_of_ble_eq_true rfl) (Nat.le_of_ble_eq_true rfl) (fun q hq => pX35_makeName (by omega) hdr hsE hq) (fun q21 hf => ?_)
    refine w_goto 245 dX35_primitive_184 (by decide) ?_
    exact (pX35_primitive_b245 hd hdr hsE hsN hf).to trivial
  replace hf := (if_neg c19).symm.trans hf
  by_cases c22 : p1 = (3 : Int32)
  · replace hf := (if_pos c22).symm.trans hf
    refine w_tableIn 187 dX35_primitive_1 (by rw [c22]; decide) (by rw [c22]; decide) (by rw [c22]; rfl) (by decide) ?_
    refine w_aload_n dX35_primitive_187 rfl rfl ?_
    refine w_aload_n dX35_primitive_188 rfl rfl ?_
    obtain ⟨_, b23, hf⟩ := Option.bind_eq_some_iff.mp hf
    refine x_cnI hf (e_stV (Yc := YX35_need) (ci := 34) (av := []) (st := [.ref this]) dX35_primitive_189 q5154 mX35_need rfl (k_ok_some b23).1 (k_ok_some b23).2) mX35_need.2.2.1 mX35_need.2.2.2.2.1 (Nat.le_of_ble_eq_true rfl) (Nat.le_of_ble_eq_true rfl) (fun q hq => pX35_need (by omega) hq) (fun q24 hf => ?_)
    obtain ⟨_, b25, hf⟩ := Option.bind_eq_some_iff.mp hf
    refine x_cnV hf (e_stV (Yc := YX35_spellOut) (ci := 34) (av := [.int q24.1]) (st := []) dX35_primitive_192 q5209 mX35_spellOut rfl (k_ok_some b25).1 (k_ok_some b25).2) mX35_spellOut.2.2.1 mX35_spellOut.2.2.2.2.1 (Nat.le_of_ble_eq_true rfl) (Nat.le_of_ble_eq_true rfl) (fun q hq => pX35_spellOut (by omega) hq) (fun q26 hf => ?_)
    refine w_goto 245 dX35_primitive_195 (by decide) ?_
    exact (pX35_primitive_b245 hd hdr hsE hsN hf).to trivial
  replace hf := (if_neg c22).symm.trans hf
  by_cases c27 : p1 = (4 : Int32)
  · replace hf := (if_pos c27).symm.trans hf
    refine w_tableIn 198 dX35_primitive_1 (by rw [c27]; decide) (by rw [c27]; decide) (by rw [c27]; rfl) (by decide) ?_
    refine w_aload_n dX35_primitive_198 rfl rfl ?_
    refine w_aload_n dX35_primitive_199 rfl rfl ?_
    obtain ⟨_, b28, hf⟩ := Option.bind_eq_some_iff.mp hf
    refine x_cnI hf (e_stV (Yc := YX35_number) (ci := 34) (av := []) (st := [.ref this]) dX35_primitive_200 q5217 mX35_number rfl (k_ok_some b28).1 (k_ok_some b28).2) mX35_number.2.2.1 mX35_number.2.2.2.2.1 (Nat.le_of_ble_eq_true rfl) (Nat.le_of_ble_eq_true rfl) (fun q hq => (hsN _ _ _ hq).up (by omega)) (fun q29 hf => ?_)
    obtain ⟨_, b30, hf⟩ := Option.bind_eq_some_iff.mp hf
    refine x_cnV hf (e_stV (Yc := YX35_putDigits) (ci := 34) (av := [.int q29.1]) (st := []) dX35_primitive_203 q5300 mX35_putDigits rfl (k_ok_some b30).1 (k_ok_some b30).2) mX35_putDigits.2.2.1 mX35_putDigits.2.2.2.2.1 (Nat.le_of_ble_eq_true rfl) (Nat.le_of_ble_eq_true rfl) (fun q hq => pX35_putDigits (by omega) hq) (fun q31 hf => ?_)
    refine w_goto 245 dX35_primitive_206 (by decide) ?_
    exact (pX35_primitive_b245 hd hdr hsE hsN hf).to trivial
  replace hf := (if_neg c27).symm.trans hf
  by_cases c32 : p1 = (5 : Int32)
  · replace hf := (if_pos c32).symm.trans hf
    refine w_tableIn 209 dX35_primitive_1 (by rw [c32]; decide) (by rw [c32]; decide) (by rw [c32]; rfl) (by decide) ?_
    refine w_aload_n dX35_primitive_209 rfl rfl ?_
    refine w_aload_n dX35_primitive_210 rfl rfl ?_
    obtain ⟨_, b33, hf⟩ := Option.bind_eq_some_iff.mp hf
    refine x_cnI hf (e_stV (Yc := YX35_number) (ci := 34) (av := []) (st := [.ref this]) dX35_primitive_211 q5217 mX35_number rfl (k_ok_some b33).1 (k_ok_some b33).2) mX35_number.2.2.1 mX35_number.2.2.2.2.1 (Nat.le_of_ble_eq_true rfl) (Nat.le_of_ble_eq_true rfl) (fun q hq => (hsN _ _ _ hq).up (by omega)) (fun q34 hf => ?_)
    obtain ⟨_, b35, hf⟩ := Option.bind_eq_some_iff.mp hf
    refine x_cnV hf (e_stV (Yc := YX35_roman) (ci := 34) (av := [.int q34.1]) (st := []) dX35_primitive_214 q5304 mX35_roman rfl (k_ok_some b35).1 (k_ok_some b35).2) mX35_roman.2.2.1 mX35_roman.2.2.2.2.1 (Nat.le_of_ble_eq_true rfl) (Nat.le_of_ble_eq_true rfl) (fun q hq => pX35_roman (by omega) hq) (fun q36 hf => ?_)
    refine w_goto 245 dX35_primitive_217 (by decide) ?_
    exact (pX35_primitive_b245 hd hdr hsE hsN hf).to trivial
  replace hf := (if_neg c32).symm.trans hf
  by_cases c37 : p1 = (6 : Int32)
  · replace hf := (if_pos c37).symm.trans hf
    refine w_tableIn 220 dX35_primitive_1 (by rw [c37]; decide) (by rw [c37]; decide) (by rw [c37]; rfl) (by decide) ?_
    refine w_aload_n dX35_primitive_220 rfl rfl ?_
    refine w_aload_n dX35_primitive_221 rfl rfl ?_
    obtain ⟨_, b38, hf⟩ := Option.bind_eq_some_iff.mp hf
    refine x_cnI hf (e_stV (Yc := YX35_needExpanded) (ci := 34) (av := []) (st := [.ref this]) dX35_primitive_222 q5193 mX35_needExpanded rfl (k_ok_some b38).1 (k_ok_some b38).2) mX35_needExpanded.2.2.1 mX35_needExpanded.2.2.2.2.1 (Nat.le_of_ble_eq_true rfl) (Nat.le_of_ble_eq_true rfl) (fun q hq => pX35_needExpanded (by omega) hdr hsE hq) (fun q39 hf => ?_)
    obtain ⟨_, b40, hf⟩ := Option.bind_eq_some_iff.mp hf
    refine x_cnV hf (e_stV (Yc := YX35_told) (ci := 34) (av := [.int q39.1]) (st := []) dX35_primitive_225 q5312 mX35_told rfl (k_ok_some b40).1 (k_ok_some b40).2) mX35_told.2.2.1 mX35_told.2.2.2.2.1 (Nat.le_of_ble_eq_true rfl) (Nat.le_of_ble_eq_true rfl) (fun q hq => pX35_told (by omega) hdr hsN hq) (fun q41 hf => ?_)
    refine w_goto 245 dX35_primitive_228 (by decide) ?_
    exact (pX35_primitive_b245 hd hdr hsE hsN hf).to trivial
  replace hf := (if_neg c37).symm.trans hf
  by_cases c42 : p1 = (7 : Int32)
  · replace hf := (if_pos c42).symm.trans hf
    refine w_tableIn 240 dX35_primitive_1 (by rw [c42]; decide) (by rw [c42]; decide) (by rw [c42]; rfl) (by decide) ?_
    refine w_aload_n dX35_primitive_240 rfl rfl ?_
    refine w_iload_n dX35_primitive_241 rfl rfl ?_
    obtain ⟨_, b43, hf⟩ := Option.bind_eq_some_iff.mp hf
    refine x_cnV hf (e_stV (Yc := YX35_condition) (ci := 34) (av := [.int p1]) (st := []) dX35_primitive_242 q5325 mX35_condition rfl (k_ok_some b43).1 (k_ok_some b43).2) mX35_condition.2.2.1 mX35_condition.2.2.2.2.1 (Nat.le_of_ble_eq_true rfl) (Nat.le_of_ble_eq_true rfl) (fun q hq => pX35_condition (by omega) hdr hsE hsN hq) (fun q44 hf => ?_)
    exact (pX35_primitive_b245 hd hdr hsE hsN hf).to trivial
  replace hf := (if_neg c42).symm.trans hf
  by_cases c45 : p1 = (8 : Int32)
  · replace hf := (if_pos c45).symm.trans hf
    refine w_tableIn 240 dX35_primitive_1 (by rw [c45]; decide) (by rw [c45]; decide) (by rw [c45]; rfl) (by decide) ?_
    refine w_aload_n dX35_primitive_240 rfl rfl ?_
    refine w_iload_n dX35_primitive_241 rfl rfl ?_
    obtain ⟨_, b46, hf⟩ := Option.bind_eq_some_iff.mp hf
    refine x_cnV hf (e_stV (Yc := YX35_condition) (ci := 34) (av := [.int p1]) (st := []) dX35_primitive_242 q5325 mX35_condition rfl (k_ok_some b46).1 (k_ok_some b46).2) mX35_condition.2.2.1 mX35_condition.2.2.2.2.1 (Nat.le_of_ble_eq_true rfl) (Nat.le_of_ble_eq_true rfl) (fun q hq => pX35_condition (by omega) hdr hsE hsN hq) (fun q47 hf => ?_)
    exact (pX35_primitive_b245 hd hdr hsE hsN hf).to trivial
  replace hf := (if_neg c45).symm.trans hf
  by_cases c48 : p1 = (9 : Int32)
  · replace hf := (if_pos c48).symm.trans hf
    refine w_tableIn 240 dX35_primitive_1 (by rw [c48]; decide) (by rw [c48]; decide) (by rw [c48]; rfl) (by decide) ?_
    refine w_aload_n dX35_primitive_240 rfl rfl ?_
    refine w_iload_n dX35_primitive_241 rfl rfl ?_
    obtain ⟨_, b49, hf⟩ := Option.bind_eq_some_iff.mp hf
    refine x_cnV hf (e_stV (Yc := YX35_condition) (ci := 34) (av := [.int p1]) (st := []) dX35_primitive_242 q5325 mX35_condition rfl (k_ok_some b49).1 (k_ok_some b49).2) mX35_condition.2.2.1 mX35_condition.2.2.2.2.1 (Nat.le_of_ble_eq_true rfl) (Nat.le_of_ble_eq_true rfl) (fun q hq => pX35_condition (by omega) hdr hsE hsN hq) (fun q50 hf => ?_)
    exact (pX35_primitive_b245 hd hdr hsE hsN hf).to trivial
  replace hf := (if_neg c48).symm.trans hf
  by_cases c51 : p1 = (10 : Int32)
  · replace hf := (if_pos c51).symm.trans hf
    refine w_tableIn 240 dX35_primitive_1 (by rw [c51]; decide) (by rw [c51]; decide) (by rw [c51]; rfl) (by decide) ?_
    refine w_aload_n dX35_primitive_240 rfl rfl ?_
    refine w_iload_n dX35_primitive_241 rfl rfl ?_
    obtain ⟨_, b52, hf⟩ := Option.bind_eq_some_iff.mp hf
    refine x_cnV hf (e_stV (Yc := YX35_condition) (ci := 34) (av := [.int p1]) (st := []) dX35_primitive_242 q5325 mX35_condition rfl (k_ok_some b52).1 (k_ok_some b52).2) mX35_condition.2.2.1 mX35_condition.2.2.2.2.1 (Nat.le_of_ble_eq_true rfl) (Nat.le_of_ble_eq_true rfl) (fun q hq => pX35_condition (by omega) hdr hsE hsN hq) (fun q53 hf => ?_)
    exact (pX35_primitive_b245 hd hdr hsE hsN hf).to trivial
  replace hf := (if_neg c51).symm.trans hf
  by_cases c54 : p1 = (11 : Int32)
  · replace hf := (if_pos c54).symm.trans hf
    refine w_tableIn 240 dX35_primitive_1 (by rw [c54]; decide) (by rw [c54]; decide) (by rw [c54]; rfl) (by decide) ?_
    refine w_aload_n dX35_primitive_240 rfl rfl ?_
    refine w_iload_n dX35_primitive_241 rfl rfl ?_
    obtain ⟨_, b55, hf⟩ := Option.bind_eq_some_iff.mp hf
    refine x_cnV hf (e_stV (Yc := YX35_condition) (ci := 34) (av := [.int p1]) (st := []) dX35_primitive_242 q5325 mX35_condition rfl (k_ok_some b55).1 (k_ok_some b55).2) mX35_condition.2.2.1 mX35_condition.2.2.2.2.1 (Nat.le_of_ble_eq_true rfl) (Nat.le_of_ble_eq_true rfl) (fun q hq => pX35_condition (by omega) hdr hsE hsN hq) (fun q56 hf => ?_)
    exact (pX35_primitive_b245 hd hdr hsE hsN hf).to trivial
  replace hf := (if_neg c54).symm.trans hf
  by_cases c57 : p1 = (12 : Int32)
  · replace hf := (if_pos c57).symm.trans hf
    refine w_tableIn 240 dX35_primitive_1 (by rw [c57]; decide) (by rw [c57]; decide) (by rw [c57]; rfl) (by decide) ?_
    refine w_aload_n dX35_primitive_240 rfl rfl ?_
    refine w_iload_n dX35_primitive_241 rfl rfl ?_
    obtain ⟨_, b58, hf⟩ := Option.bind_eq_some_iff.mp hf
    refine x_cnV hf (e_stV (Yc := YX35_condition) (ci := 34) (av := [.int p1]) (st := []) dX35_primitive_242 q5325 mX35_condition rfl (k_ok_some b58).1 (k_ok_some b58).2) mX35_condition.2.2.1 mX35_condition.2.2.2.2.1 (Nat.le_of_ble_eq_true rfl) (Nat.le_of_ble_eq_true rfl) (fun q hq => pX35_condition (by omega) hdr hsE hsN hq) (fun q59 hf => ?_)
    exact (pX35_primitive_b245 hd hdr hsE hsN hf).to trivial
  replace hf := (if_neg c57).symm.trans hf
  by_cases c60 : p1 = (13 : Int32)
  · replace hf := (if_pos c60).symm.trans hf
    refine w_tableIn 240 dX35_primitive_1 (by rw [c60]; decide) (by rw [c60]; decide) (by rw [c60]; rfl) (by decide) ?_
    refine w_aload_n dX35_primitive_240 rfl rfl ?_
    refine w_iload_n dX35_primitive_241 rfl rfl ?_
    obtain ⟨_, b61, hf⟩ := Option.bind_eq_some_iff.mp hf
    refine x_cnV hf (e_stV (Yc := YX35_condition) (ci := 34) (av := [.int p1]) (st := []) dX35_primitive_242 q5325 mX35_condition rfl (k_ok_some b61).1 (k_ok_some b61).2) mX35_condition.2.2.1 mX35_condition.2.2.2.2.1 (Nat.le_of_ble_eq_true rfl) (Nat.le_of_ble_eq_true rfl) (fun q hq => pX35_condition (by omega) hdr hsE hsN hq) (fun q62 hf => ?_)
    exact (pX35_primitive_b245 hd hdr hsE hsN hf).to trivial
  replace hf := (if_neg c60).symm.trans hf
  by_cases c63 : p1 = (14 : Int32)
  · replace hf := (if_pos c63).symm.trans hf
    refine w_tableIn 240 dX35_primitive_1 (by rw [c63]; decide) (by rw [c63]; decide) (by rw [c63]; rfl) (by decide) ?_
    refine w_aload_n dX35_primitive_240 rfl rfl ?_
    refine w_iload_n dX35_primitive_241 rfl rfl ?_
    obtain ⟨_, b64, hf⟩ := Option.bind_eq_some_iff.mp hf
    refine x_cnV hf (e_stV (Yc := YX35_condition) (ci := 34) (av := [.int p1]) (st := []) dX35_primitive_242 q5325 mX35_condition rfl (k_ok_some b64).1 (k_ok_some b64).2) mX35_condition.2.2.1 mX35_condition.2.2.2.2.1 (Nat.le_of_ble_eq_true rfl) (Nat.le_of_ble_eq_true rfl) (fun q hq => pX35_condition (by omega) hdr hsE hsN hq) (fun q65 hf => ?_)
    exact (pX35_primitive_b245 hd hdr hsE hsN hf).to trivial
  replace hf := (if_neg c63).symm.trans hf
  by_cases c66 : p1 = (15 : Int32)
  · replace hf := (if_pos c66).symm.trans hf
    refine w_tableIn 240 dX35_primitive_1 (by rw [c66]; decide) (by rw [c66]; decide) (by rw [c66]; rfl) (by decide) ?_
    refine w_aload_n dX35_primitive_240 rfl rfl ?_
    refine w_iload_n dX35_primitive_241 rfl rfl ?_
    obtain ⟨_, b67, hf⟩ := Option.bind_eq_some_iff.mp hf
    refine x_cnV hf (e_stV (Yc := YX35_condition) (ci := 34) (av := [.int p1]) (st := []) dX35_primitive_242 q5325 mX35_condition rfl (k_ok_some b67).1 (k_ok_some b67).2) mX35_condition.2.2.1 mX35_condition.2.2.2.2.1 (Nat.le_of_ble_eq_true rfl) (Nat.le_of_ble_eq_true rfl) (fun q hq => pX35_condition (by omega) hdr hsE hsN hq) (fun q68 hf => ?_)
    exact (pX35_primitive_b245 hd hdr hsE hsN hf).to trivial
  replace hf := (if_neg c66).symm.trans hf
  by_cases c69 : p1 = (16 : Int32)
  · replace hf := (if_pos c69).symm.trans hf
    refine w_tableIn 240 dX35_primitive_1 (by rw [c69]; decide) (by rw [c69]; decide) (by rw [c69]; rfl) (by decide) ?_
    refine w_aload_n dX35_primitive_240 rfl rfl ?_
    refine w_iload_n dX35_primitive_241 rfl rfl ?_
    obtain ⟨_, b70, hf⟩ := Option.bind_eq_some_iff.mp hf
    refine x_cnV hf (e_stV (Yc := YX35_condition) (ci := 34) (av := [.int p1]) (st := []) dX35_primitive_242 q5325 mX35_condition rfl (k_ok_some b70).1 (k_ok_some b70).2) mX35_condition.2.2.1 mX35_condition.2.2.2.2.1 (Nat.le_of_ble_eq_true rfl) (Nat.le_of_ble_eq_true rfl) (fun q hq => pX35_condition (by omega) hdr hsE hsN hq) (fun q71 hf => ?_)
    exact (pX35_primitive_b245 hd hdr hsE hsN hf).to trivial
  replace hf := (if_neg c69).symm.trans hf
  by_cases c72 : p1 = (17 : Int32)
  · replace hf := (if_pos c72).symm.trans hf
    refine w_tableIn 240 dX35_primitive_1 (by rw [c72]; decide) (by rw [c72]; decide) (by rw [c72]; rfl) (by decide) ?_
    refine w_aload_n dX35_primitive_240 rfl rfl ?_
    refine w_iload_n dX35_primitive_241 rfl rfl ?_
    obtain ⟨_, b73, hf⟩ := Option.bind_eq_some_iff.mp hf
    refine x_cnV hf (e_stV (Yc := YX35_condition) (ci := 34) (av := [.int p1]) (st := []) dX35_primitive_242 q5325 mX35_condition rfl (k_ok_some b73).1 (k_ok_some b73).2) mX35_condition.2.2.1 mX35_condition.2.2.2.2.1 (Nat.le_of_ble_eq_true rfl) (Nat.le_of_ble_eq_true rfl) (fun q hq => pX35_condition (by omega) hdr hsE hsN hq) (fun q74 hf => ?_)
    exact (pX35_primitive_b245 hd hdr hsE hsN hf).to trivial
  replace hf := (if_neg c72).symm.trans hf
  by_cases c75 : p1 = (18 : Int32)
  · replace hf := (if_pos c75).symm.trans hf
    refine w_tableIn 240 dX35_primitive_1 (by rw [c75]; decide) (by rw [c75]; decide) (by rw [c75]; rfl) (by decide) ?_
    refine w_aload_n dX35_primitive_240 rfl rfl ?_
    refine w_iload_n dX35_primitive_241 rfl rfl ?_
    obtain ⟨_, b76, hf⟩ := Option.bind_eq_some_iff.mp hf
    refine x_cnV hf (e_stV (Yc := YX35_condition) (ci := 34) (av := [.int p1]) (st := []) dX35_primitive_242 q5325 mX35_condition rfl (k_ok_some b76).1 (k_ok_some b76).2) mX35_condition.2.2.1 mX35_condition.2.2.2.2.1 (Nat.le_of_ble_eq_true rfl) (Nat.le_of_ble_eq_true rfl) (fun q hq => pX35_condition (by omega) hdr hsE hsN hq) (fun q77 hf => ?_)
    exact (pX35_primitive_b245 hd hdr hsE hsN hf).to trivial
  replace hf := (if_neg c75).symm.trans hf
  by_cases c78 : p1 = (19 : Int32)
  · replace hf := (if_pos c78).symm.trans hf
    refine w_tableIn 231 dX35_primitive_1 (by rw [c78]; decide) (by rw [c78]; decide) (by rw [c78]; rfl) (by decide) ?_
    refine w_aload_n dX35_primitive_231 rfl rfl ?_
    refine w_iload_n dX35_primitive_232 rfl rfl ?_
    refine w_iload_n dX35_primitive_233 rfl rfl ?_
    obtain ⟨_, b79, hf⟩ := Option.bind_eq_some_iff.mp hf
    refine x_cnV hf (e_stV (Yc := YX35_branch) (ci := 34) (av := [.int p0, .int p1]) (st := []) dX35_primitive_234 q5316 mX35_branch rfl (k_ok_some b79).1 (k_ok_some b79).2) mX35_branch.2.2.1 mX35_branch.2.2.2.2.1 (Nat.le_of_ble_eq_true rfl) (Nat.le_of_ble_eq_true rfl) (fun q hq => pX35_branch (by omega) hq) (fun q80 hf => ?_)
    refine w_goto 245 dX35_primitive_237 (by decide) ?_
    exact (pX35_primitive_b245 hd hdr hsE hsN hf).to trivial
  replace hf := (if_neg c78).symm.trans hf
  by_cases c81 : p1 = (20 : Int32)
  · replace hf := (if_pos c81).symm.trans hf
    refine w_tableIn 231 dX35_primitive_1 (by rw [c81]; decide) (by rw [c81]; decide) (by rw [c81]; rfl) (by decide) ?_
    refine w_aload_n dX35_primitive_231 rfl rfl ?_
    refine w_iload_n dX35_primitive_232 rfl rfl ?_
    refine w_iload_n dX35_primitive_233 rfl rfl ?_
    obtain ⟨_, b82, hf⟩ := Option.bind_eq_some_iff.mp hf
    refine x_cnV hf (e_stV (Yc := YX35_branch) (ci := 34) (av := [.int p0, .int p1]) (st := []) dX35_primitive_234 q5316 mX35_branch rfl (k_ok_some b82).1 (k_ok_some b82).2) mX35_branch.2.2.1 mX35_branch.2.2.2.2.1 (Nat.le_of_ble_eq_true rfl) (Nat.le_of_ble_eq_true rfl) (fun q hq => pX35_branch (by omega) hq) (fun q83 hf => ?_)
    refine w_goto 245 dX35_primitive_237 (by decide) ?_
    exact (pX35_primitive_b245 hd hdr hsE hsN hf).to trivial
  replace hf := (if_neg c81).symm.trans hf
  by_cases c84 : p1 = (21 : Int32)
  · replace hf := (if_pos c84).symm.trans hf
    refine w_tableIn 231 dX35_primitive_1 (by rw [c84]; decide) (by rw [c84]; decide) (by rw [c84]; rfl) (by decide) ?_
    refine w_aload_n dX35_primitive_231 rfl rfl ?_
    refine w_iload_n dX35_primitive_232 rfl rfl ?_
    refine w_iload_n dX35_primitive_233 rfl rfl ?_
    obtain ⟨_, b85, hf⟩ := Option.bind_eq_some_iff.mp hf
    refine x_cnV hf (e_stV (Yc := YX35_branch) (ci := 34) (av := [.int p0, .int p1]) (st := []) dX35_primitive_234 q5316 mX35_branch rfl (k_ok_some b85).1 (k_ok_some b85).2) mX35_branch.2.2.1 mX35_branch.2.2.2.2.1 (Nat.le_of_ble_eq_true rfl) (Nat.le_of_ble_eq_true rfl) (fun q hq => pX35_branch (by omega) hq) (fun q86 hf => ?_)
    refine w_goto 245 dX35_primitive_237 (by decide) ?_
    exact (pX35_primitive_b245 hd hdr hsE hsN hf).to trivial
  replace hf := (if_neg c84).symm.trans hf
  refine w_tableOut 240 dX35_primitive_1 (by have n0 := sw_ne c1 (by decide : (0 : Int32).toInt = 0); have n1 := sw_ne c13 (by decide : (1 : Int32).toInt = 1); have n2 := sw_ne c19 (by decide : (2 : Int32).toInt = 2); have n3 := sw_ne c22 (by decide : (3 : Int32).toInt = 3); have n4 := sw_ne c27 (by decide : (4 : Int32).toInt = 4); have n5 := sw_ne c32 (by decide : (5 : Int32).toInt = 5); have n6 := sw_ne c37 (by decide : (6 : Int32).toInt = 6); have n7 := sw_ne c42 (by decide : (7 : Int32).toInt = 7); have n8 := sw_ne c45 (by decide : (8 : Int32).toInt = 8); have n9 := sw_ne c48 (by decide : (9 : Int32).toInt = 9); have n10 := sw_ne c51 (by decide : (10 : Int32).toInt = 10); have n11 := sw_ne c54 (by decide : (11 : Int32).toInt = 11); have n12 := sw_ne c57 (by decide : (12 : Int32).toInt = 12); have n13 := sw_ne c60 (by decide : (13 : Int32).toInt = 13); have n14 := sw_ne c63 (by decide : (14 : Int32).toInt = 14); have n15 := sw_ne c66 (by decide : (15 : Int32).toInt = 15); have n16 := sw_ne c69 (by decide : (16 : Int32).toInt = 16); have n17 := sw_ne c72 (by decide : (17 : Int32).toInt = 17); have n18 := sw_ne c75 (by decide : (18 : Int32).toInt = 18); have n19 := sw_ne c78 (by decide : (19 : Int32).toInt = 19); have n20 := sw_ne c81 (by decide : (20 : Int32).toInt = 20); have n21 := sw_ne c84 (by decide : (21 : Int32).toInt = 21); omega) (by decide) ?_
  refine w_aload_n dX35_primitive_240 rfl rfl ?_
  refine w_iload_n dX35_primitive_241 rfl rfl ?_
  obtain ⟨_, b87, hf⟩ := Option.bind_eq_some_iff.mp hf
  refine x_cnV hf (e_stV (Yc := YX35_condition) (ci := 34) (av := [.int p1]) (st := []) dX35_primitive_242 q5325 mX35_condition rfl (k_ok_some b87).1 (k_ok_some b87).2) mX35_condition.2.2.1 mX35_condition.2.2.2.2.1 (Nat.le_of_ble_eq_true rfl) (Nat.le_of_ble_eq_true rfl) (fun q hq => pX35_condition (by omega) hdr hsE hsN hq) (fun q88 hf => ?_)
  exact (pX35_primitive_b245 hd hdr hsE hsN hf).to trivial
def fX35_expand_b94 (N : Nat) (sE : Nat → Int32 → eH → Option (Unit × eH)) (sN : Nat → eH → Option (Int32 × eH))  (h : eH) : Option (Unit × eH) :=
  some ((), h)
theorem pX35_expand_b94 {w : eW} {d : Nat} {dr : Nat} (hd : dr + 14 ≤ d + 1) (hdr : 12 ≤ dr) {N : Nat} {sE : Nat → Int32 → eH → Option (Unit × eH)} {sN : Nat → eH → Option (Int32 × eH)} (hsE : ∀ a t0 h q, sE a t0 h = some q → wm w dr YX35_expand [.ref a, .int t0] h (e_is (e_rn c_V q))) (hsN : ∀ a h q, sN a h = some q → wm w dr YX35_number [.ref a] h (e_is (e_rn c_I q)))  {h : eH} {q} (hf : fX35_expand_b94 N sE sN h = some q) : wp w (d + 1) YX35_expand 94 [none, none, none] [] h (e_is (e_rn c_V q)) := by
  unfold fX35_expand_b94 at hf
  cases hf
  exact w_vret dX35_expand_94 rfl rfl
def fX35_expand_b69 (N : Nat) (sE : Nat → Int32 → eH → Option (Unit × eH)) (sN : Nat → eH → Option (Int32 × eH)) (l0 : Nat) (h : eH) : Option (Unit × eH) :=
  (g_I 34 h l0 45).bind fun x1 =>
  (p_V 34 h l0 45 (.int (x1 - (1 : Int32)))).bind fun h3 =>
  (g_I 34 h3 l0 37).bind fun x5 =>
  if x5 ≤ (10000 : Int32) then
    fX35_expand_b94 N sE sN h3
  else
    (k_ok 34 h3 l0).bind fun _ =>
    (fX35_fail l0 (2 : Int32) h3).bind fun q9 =>
    fX35_expand_b94 N sE sN q9.2
theorem pX35_expand_b69 {w : eW} {d : Nat} {dr : Nat} (hd : dr + 14 ≤ d + 1) (hdr : 12 ≤ dr) {N : Nat} {sE : Nat → Int32 → eH → Option (Unit × eH)} {sN : Nat → eH → Option (Int32 × eH)} (hsE : ∀ a t0 h q, sE a t0 h = some q → wm w dr YX35_expand [.ref a, .int t0] h (e_is (e_rn c_V q))) (hsN : ∀ a h q, sN a h = some q → wm w dr YX35_number [.ref a] h (e_is (e_rn c_I q))) {l0 : Nat} {h : eH} {q} (hf : fX35_expand_b69 N sE sN l0 h = some q) : wp w (d + 1) YX35_expand 69 [some (.ref l0), none, none] [] h (e_is (e_rn c_V q)) := by
  unfold fX35_expand_b69 at hf
  refine w_aload_n dX35_expand_69 rfl rfl ?_
  refine w_dup dX35_expand_70 rfl ?_
  obtain ⟨x1, b2, hf⟩ := Option.bind_eq_some_iff.mp hf
  refine GX35_353 b2 dX35_expand_71 rfl ?_
  refine w_iconst dX35_expand_74 (v := 1) (by decide) ?_
  refine w_isub dX35_expand_75 ?_
  obtain ⟨h3, b4, hf⟩ := Option.bind_eq_some_iff.mp hf
  refine SX35_353 b4 dX35_expand_76 rfl ?_
  refine w_aload_n dX35_expand_79 rfl rfl ?_
  obtain ⟨x5, b6, hf⟩ := Option.bind_eq_some_iff.mp hf
  refine GX35_347 b6 dX35_expand_80 rfl ?_
  refine w_sipush dX35_expand_83 (v := 10000) (by decide) ?_
  refine w_icmp_le 94 dX35_expand_86 (by decide) (fun c7 => ?_) (fun c7 => ?_)
  · replace hf := (if_pos (show x5 ≤ (10000 : Int32) from c7)).symm.trans hf
    exact (pX35_expand_b94 hd hdr hsE hsN hf).to trivial
  · replace hf := (if_neg (show ¬ (x5 ≤ (10000 : Int32)) from c7)).symm.trans hf
    refine w_aload_n dX35_expand_89 rfl rfl ?_
    refine w_iconst dX35_expand_90 (v := 2) (by decide) ?_
    obtain ⟨_, b8, hf⟩ := Option.bind_eq_some_iff.mp hf
    refine x_cnV hf (e_stV (Yc := YX35_fail) (ci := 34) (av := [.int (2 : Int32)]) (st := []) dX35_expand_91 q5109 mX35_fail rfl (k_ok_some b8).1 (k_ok_some b8).2) mX35_fail.2.2.1 mX35_fail.2.2.2.2.1 (Nat.le_of_ble_eq_true rfl) (Nat.le_of_ble_eq_true rfl) (fun q hq => pX35_fail (by omega) hq) (fun q9 hf => ?_)
    exact (pX35_expand_b94 hd hdr hsE hsN hf).to trivial
def fX35_expand_b18 (N : Nat) (sE : Nat → Int32 → eH → Option (Unit × eH)) (sN : Nat → eH → Option (Int32 × eH)) (l0 : Nat) (l1 : Int32) (h : eH) : Option (Unit × eH) :=
  (g_I 34 h l0 46).bind fun x1 =>
  if x1 ≤ 0 then
    (g_I 34 h l0 45).bind fun x4 =>
    (p_V 34 h l0 45 (.int (x4 + (1 : Int32)))).bind fun h6 =>
    (k_ok 34 h6 l0).bind fun _ =>
    (fX35_meaning l0 l1 h6).bind fun q9 =>
    if q9.1 < (100000 : Int32) then
      (k_ok 34 q9.2 l0).bind fun _ =>
      (fX35_primitive N sE sN l0 l1 (q9.1 - (1000 : Int32)) q9.2).bind fun q12 =>
      fX35_expand_b69 N sE sN l0 q12.2
    else
      (k_ok 34 q9.2 l0).bind fun _ =>
      (fX35_call N l0 (q9.1 - (100000 : Int32)) q9.2).bind fun q14 =>
      fX35_expand_b69 N sE sN l0 q14.2
  else
    some ((), h)
theorem pX35_expand_b18 {w : eW} {d : Nat} {dr : Nat} (hd : dr + 14 ≤ d + 1) (hdr : 12 ≤ dr) {N : Nat} {sE : Nat → Int32 → eH → Option (Unit × eH)} {sN : Nat → eH → Option (Int32 × eH)} (hsE : ∀ a t0 h q, sE a t0 h = some q → wm w dr YX35_expand [.ref a, .int t0] h (e_is (e_rn c_V q))) (hsN : ∀ a h q, sN a h = some q → wm w dr YX35_number [.ref a] h (e_is (e_rn c_I q))) {l0 : Nat} {l1 : Int32} {h : eH} {q} (hf : fX35_expand_b18 N sE sN l0 l1 h = some q) : wp w (d + 1) YX35_expand 18 [some (.ref l0), some (.int l1), none] [] h (e_is (e_rn c_V q)) := by
  unfold fX35_expand_b18 at hf
  refine w_aload_n dX35_expand_18 rfl rfl ?_
  obtain ⟨x1, b2, hf⟩ := Option.bind_eq_some_iff.mp hf
  refine GX35_321 b2 dX35_expand_19 rfl ?_
  refine w_if_le 26 dX35_expand_22 (by decide) (fun c3 => ?_) (fun c3 => ?_)
  · replace hf := (if_pos (show x1 ≤ 0 from c3)).symm.trans hf
    refine w_aload_n dX35_expand_26 rfl rfl ?_
    refine w_dup dX35_expand_27 rfl ?_
    obtain ⟨x4, b5, hf⟩ := Option.bind_eq_some_iff.mp hf
    refine GX35_353 b5 dX35_expand_28 rfl ?_
    refine w_iconst dX35_expand_31 (v := 1) (by decide) ?_
    refine w_iadd dX35_expand_32 ?_
    obtain ⟨h6, b7, hf⟩ := Option.bind_eq_some_iff.mp hf
    refine SX35_353 b7 dX35_expand_33 rfl ?_
    refine w_aload_n dX35_expand_36 rfl rfl ?_
    refine w_iload_n dX35_expand_37 rfl rfl ?_
    obtain ⟨_, b8, hf⟩ := Option.bind_eq_some_iff.mp hf
    refine x_cnI hf (e_stV (Yc := YX35_meaning) (ci := 34) (av := [.int l1]) (st := []) dX35_expand_38 q5130 mX35_meaning rfl (k_ok_some b8).1 (k_ok_some b8).2) mX35_meaning.2.2.1 mX35_meaning.2.2.2.2.1 (Nat.le_of_ble_eq_true rfl) (Nat.le_of_ble_eq_true rfl) (fun q hq => pX35_meaning (by omega) hq) (fun q9 hf => ?_)
    refine w_istore_n dX35_expand_41 rfl (by decide) (ls' := [some (.ref l0), some (.int l1), some (.int q9.1)]) rfl ?_
    refine w_iload_n dX35_expand_42 rfl rfl ?_
    refine w_ldc dX35_expand_43 q4120 ?_
    refine w_icmp_lt 59 dX35_expand_45 (by decide) (fun c10 => ?_) (fun c10 => ?_)
    · replace hf := (if_pos (show q9.1 < (100000 : Int32) from c10)).symm.trans hf
      refine w_aload_n dX35_expand_59 rfl rfl ?_
      refine w_iload_n dX35_expand_60 rfl rfl ?_
      refine w_iload_n dX35_expand_61 rfl rfl ?_
      refine w_sipush dX35_expand_62 (v := 1000) (by decide) ?_
      refine w_isub dX35_expand_65 ?_
      obtain ⟨_, b11, hf⟩ := Option.bind_eq_some_iff.mp hf
      refine x_cnV hf (e_stV (Yc := YX35_primitive) (ci := 34) (av := [.int l1, .int (q9.1 - (1000 : Int32))]) (st := []) dX35_expand_66 q5185 mX35_primitive rfl (k_ok_some b11).1 (k_ok_some b11).2) mX35_primitive.2.2.1 mX35_primitive.2.2.2.2.1 (Nat.le_of_ble_eq_true rfl) (Nat.le_of_ble_eq_true rfl) (fun q hq => pX35_primitive (by omega) hdr hsE hsN hq) (fun q12 hf => ?_)
      exact (pX35_expand_b69 hd hdr hsE hsN hf).to ⟨rfl, trivial⟩
    · replace hf := (if_neg (show ¬ (q9.1 < (100000 : Int32)) from c10)).symm.trans hf
      refine w_aload_n dX35_expand_48 rfl rfl ?_
      refine w_iload_n dX35_expand_49 rfl rfl ?_
      refine w_ldc dX35_expand_50 q4120 ?_
      refine w_isub dX35_expand_52 ?_
      obtain ⟨_, b13, hf⟩ := Option.bind_eq_some_iff.mp hf
      refine x_cnV hf (e_stV (Yc := YX35_call) (ci := 34) (av := [.int (q9.1 - (100000 : Int32))]) (st := []) dX35_expand_53 q5150 mX35_call rfl (k_ok_some b13).1 (k_ok_some b13).2) mX35_call.2.2.1 mX35_call.2.2.2.2.1 (Nat.le_of_ble_eq_true rfl) (Nat.le_of_ble_eq_true rfl) (fun q hq => pX35_call (by omega) hq) (fun q14 hf => ?_)
      refine w_goto 69 dX35_expand_56 (by decide) ?_
      exact (pX35_expand_b69 hd hdr hsE hsN hf).to ⟨rfl, trivial⟩
  · replace hf := (if_neg (show ¬ (x1 ≤ 0) from c3)).symm.trans hf
    cases hf
    exact w_vret dX35_expand_25 rfl rfl
def fX35_expand (N : Nat) (sE : Nat → Int32 → eH → Option (Unit × eH)) (sN : Nat → eH → Option (Int32 × eH)) (this : Nat) (p0 : Int32) (h : eH) : Option (Unit × eH) :=
  (k_ok 34 h this).bind fun _ =>
  (fX35_tick this h).bind fun q2 =>
  (g_I 34 q2.2 this 45).bind fun x3 =>
  if ¬ x3 = (40 : Int32) then
    fX35_expand_b18 N sE sN this p0 q2.2
  else
    (k_ok 34 q2.2 this).bind fun _ =>
    (fX35_fail this (3 : Int32) q2.2).bind fun q7 =>
    fX35_expand_b18 N sE sN this p0 q7.2
theorem pX35_expand {w : eW} {d : Nat} {dr : Nat} (hd : dr + 14 ≤ d) (hdr : 12 ≤ dr) {N : Nat} {sE : Nat → Int32 → eH → Option (Unit × eH)} {sN : Nat → eH → Option (Int32 × eH)} (hsE : ∀ a t0 h q, sE a t0 h = some q → wm w dr YX35_expand [.ref a, .int t0] h (e_is (e_rn c_V q))) (hsN : ∀ a h q, sN a h = some q → wm w dr YX35_number [.ref a] h (e_is (e_rn c_I q))) {this : Nat} {p0 : Int32} {h : eH} {q} (hf : fX35_expand N sE sN this p0 h = some q) : wm w d YX35_expand [.ref this, .int p0] h (e_is (e_rn c_V q)) := by
  obtain ⟨d, rfl⟩ : ∃ e, d = e + 1 := ⟨d - 1, by omega⟩
  show wp w (d + 1) YX35_expand 0 [some (.ref this), some (.int p0), none] [] h _
  unfold fX35_expand at hf
  refine w_aload_n dX35_expand_0 rfl rfl ?_
  obtain ⟨_, b1, hf⟩ := Option.bind_eq_some_iff.mp hf
  refine x_cnV hf (e_stV (Yc := YX35_tick) (ci := 34) (av := []) (st := []) dX35_expand_1 q5146 mX35_tick rfl (k_ok_some b1).1 (k_ok_some b1).2) mX35_tick.2.2.1 mX35_tick.2.2.2.2.1 (Nat.le_of_ble_eq_true rfl) (Nat.le_of_ble_eq_true rfl) (fun q hq => pX35_tick (by omega) hq) (fun q2 hf => ?_)
  refine w_aload_n dX35_expand_4 rfl rfl ?_
  obtain ⟨x3, b4, hf⟩ := Option.bind_eq_some_iff.mp hf
  refine GX35_353 b4 dX35_expand_5 rfl ?_
  refine w_bipush dX35_expand_8 (v := 40) (by decide) ?_
  refine w_icmp_ne 18 dX35_expand_10 (by decide) (fun c5 => ?_) (fun c5 => ?_)
  · replace hf := (if_pos (show ¬ x3 = (40 : Int32) from c5)).symm.trans hf
    exact (pX35_expand_b18 hd hdr hsE hsN hf).to ⟨rfl, rfl, trivial⟩
  · replace hf := (if_neg (show ¬ (¬ x3 = (40 : Int32)) from (fun z => z c5))).symm.trans hf
    refine w_aload_n dX35_expand_13 rfl rfl ?_
    refine w_iconst dX35_expand_14 (v := 3) (by decide) ?_
    obtain ⟨_, b6, hf⟩ := Option.bind_eq_some_iff.mp hf
    refine x_cnV hf (e_stV (Yc := YX35_fail) (ci := 34) (av := [.int (3 : Int32)]) (st := []) dX35_expand_15 q5109 mX35_fail rfl (k_ok_some b6).1 (k_ok_some b6).2) mX35_fail.2.2.1 mX35_fail.2.2.2.2.1 (Nat.le_of_ble_eq_true rfl) (Nat.le_of_ble_eq_true rfl) (fun q hq => pX35_fail (by omega) hq) (fun q7 hf => ?_)
    exact (pX35_expand_b18 hd hdr hsE hsN hf).to ⟨rfl, rfl, trivial⟩
abbrev cX35_lay : ByteArray := prog_37_method_3_code
def yX35_lay : MethodName := ⟨RX35, "lay", "(I)V"⟩
def YX35_lay : eY := (yX35_lay, cX35_lay, 3, none, [])
theorem mX35_lay : e_mv YX35_lay RX35 1 := ⟨q4899, qs220, q4900, by decide, by decide +kernel, (e_sig (by decide +kernel))⟩
theorem dX35_lay_0 : decode cX35_lay 0 = .ok (.bipush 24, 2) := dc_16 (a := 24) (v := 24) (by decide +kernel)
theorem dX35_lay_2 : decode cX35_lay 2 = .ok (.istore_n 2, 1) := dc_61 (by decide +kernel)
theorem dX35_lay_3 : decode cX35_lay 3 = .ok (.iload_n 2, 1) := dc_28 (by decide +kernel)
theorem dX35_lay_4 : decode cX35_lay 4 = .ok (.ifCond .lt 32, 3) := dc_155 (a := 0) (b := 32) (v := 32) (by decide +kernel)
theorem dX35_lay_7 : decode cX35_lay 7 = .ok (.aload_n 0, 1) := dc_42 (by decide +kernel)
theorem dX35_lay_8 : decode cX35_lay 8 = .ok (.getfield 8, 3) := dc_180 (a := 0) (b := 8) (n := 8) (by decide +kernel)
theorem dX35_lay_11 : decode cX35_lay 11 = .ok (.aload_n 0, 1) := dc_42 (by decide +kernel)
theorem dX35_lay_12 : decode cX35_lay 12 = .ok (.getfield 255, 3) := dc_180 (a := 0) (b := 255) (n := 255) (by decide +kernel)
theorem dX35_lay_15 : decode cX35_lay 15 = .ok (.iload_n 1, 1) := dc_27 (by decide +kernel)
theorem dX35_lay_16 : decode cX35_lay 16 = .ok (.iload_n 2, 1) := dc_28 (by decide +kernel)
theorem dX35_lay_17 : decode cX35_lay 17 = .ok (.ishr, 1) := dc_122 (by decide +kernel)
theorem dX35_lay_18 : decode cX35_lay 18 = .ok (.i2b, 1) := dc_145 (by decide +kernel)
theorem dX35_lay_19 : decode cX35_lay 19 = .ok (.bastore, 1) := dc_84 (by decide +kernel)
theorem dX35_lay_20 : decode cX35_lay 20 = .ok (.aload_n 0, 1) := dc_42 (by decide +kernel)
theorem dX35_lay_21 : decode cX35_lay 21 = .ok (.dup, 1) := dc_89 (by decide +kernel)
theorem dX35_lay_22 : decode cX35_lay 22 = .ok (.getfield 255, 3) := dc_180 (a := 0) (b := 255) (n := 255) (by decide +kernel)
theorem dX35_lay_25 : decode cX35_lay 25 = .ok (.iconst 1, 1) := dc_4 (by decide +kernel)
theorem dX35_lay_26 : decode cX35_lay 26 = .ok (.iadd, 1) := dc_96 (by decide +kernel)
theorem dX35_lay_27 : decode cX35_lay 27 = .ok (.putfield 255, 3) := dc_181 (a := 0) (b := 255) (n := 255) (by decide +kernel)
theorem dX35_lay_30 : decode cX35_lay 30 = .ok (.iinc 2 (-8), 3) := dc_132 (a := 2) (b := 248) (v := -8) (by decide +kernel)
theorem dX35_lay_33 : decode cX35_lay 33 = .ok (.goto (-30), 3) := dc_167 (a := 255) (b := 226) (v := -30) (by decide +kernel)
theorem dX35_lay_36 : decode cX35_lay 36 = .ok (.return_, 1) := dc_177 (by decide +kernel)
def fX35_lay_b3 (N : Nat) : Nat → Nat → Int32 → Int32 → eH → Option (Unit × eH)
  | 0, _, _, _, _ => none
  | n + 1, l0, l1, l2, h =>
    if l2 < 0 then
      some ((), h)
    else
      (g_A 34 h l0 2).bind fun a2 =>
      (g_I 34 h l0 1).bind fun x4 =>
      (q_V 102 h a2 x4 (.int (((l1 >>> (l2 &&& 31))).toInt8.toInt32).toInt8.toInt32)).bind fun h6 =>
      (g_I 34 h6 l0 1).bind fun x8 =>
      (p_V 34 h6 l0 1 (.int (x8 + (1 : Int32)))).bind fun h10 =>
      fX35_lay_b3 N n l0 l1 (l2 + (-8 : Int32)) h10
theorem pX35_lay_b3 {w : eW} {d : Nat} (hd : 0 ≤ d) {N : Nat} : ∀ (n : Nat) l0 l1 l2 h q, fX35_lay_b3 N n l0 l1 l2 h = some q → wp w d YX35_lay 3 [some (.ref l0), some (.int l1), some (.int l2)] [] h (e_is (e_rn c_V q)) := by
  intro n
  induction n with
  | zero => intro l0 l1 l2 h q hf; simp [fX35_lay_b3] at hf
  | succ n ih =>
    intro l0 l1 l2 h q hf
    rw [fX35_lay_b3] at hf
    refine w_iload_n dX35_lay_3 rfl rfl ?_
    refine w_if_lt 36 dX35_lay_4 (by decide) (fun c1 => ?_) (fun c1 => ?_)
    · replace hf := (if_pos (show l2 < 0 from c1)).symm.trans hf
      cases hf
      exact w_vret dX35_lay_36 rfl rfl
    · replace hf := (if_neg (show ¬ (l2 < 0) from c1)).symm.trans hf
      refine w_aload_n dX35_lay_7 rfl rfl ?_
      obtain ⟨a2, b3, hf⟩ := Option.bind_eq_some_iff.mp hf
      refine GX35_8 b3 dX35_lay_8 rfl ?_
      refine w_aload_n dX35_lay_11 rfl rfl ?_
      obtain ⟨x4, b5, hf⟩ := Option.bind_eq_some_iff.mp hf
      refine GX35_255 b5 dX35_lay_12 rfl ?_
      refine w_iload_n dX35_lay_15 rfl rfl ?_
      refine w_iload_n dX35_lay_16 rfl rfl ?_
      refine w_ishr dX35_lay_17 ?_
      refine w_i2b dX35_lay_18 ?_
      obtain ⟨h6, b7, hf⟩ := Option.bind_eq_some_iff.mp hf
      refine x_qB b7 dX35_lay_19 ?_
      refine w_aload_n dX35_lay_20 rfl rfl ?_
      refine w_dup dX35_lay_21 rfl ?_
      obtain ⟨x8, b9, hf⟩ := Option.bind_eq_some_iff.mp hf
      refine GX35_255 b9 dX35_lay_22 rfl ?_
      refine w_iconst dX35_lay_25 (v := 1) (by decide) ?_
      refine w_iadd dX35_lay_26 ?_
      obtain ⟨h10, b11, hf⟩ := Option.bind_eq_some_iff.mp hf
      refine SX35_255 b11 dX35_lay_27 rfl ?_
      refine w_iinc dX35_lay_30 (v := (l2 + (-8 : Int32))) rfl rfl (by decide) (ls' := [some (.ref l0), some (.int l1), some (.int (l2 + (-8 : Int32)))]) rfl ?_
      refine w_goto 3 dX35_lay_33 (by decide) ?_
      exact (ih _ _ _ _ _ hf).to ⟨rfl, rfl, rfl, trivial⟩
def fX35_lay (N : Nat) (this : Nat) (p0 : Int32) (h : eH) : Option (Unit × eH) :=
  fX35_lay_b3 N N this p0 (24 : Int32) h
theorem pX35_lay {w : eW} {d : Nat} (hd : 0 ≤ d) {N : Nat} {this : Nat} {p0 : Int32} {h : eH} {q} (hf : fX35_lay N this p0 h = some q) : wm w d YX35_lay [.ref this, .int p0] h (e_is (e_rn c_V q)) := by
  show wp w d YX35_lay 0 [some (.ref this), some (.int p0), none] [] h _
  unfold fX35_lay at hf
  refine w_bipush dX35_lay_0 (v := 24) (by decide) ?_
  refine w_istore_n dX35_lay_2 rfl (by decide) (ls' := [some (.ref this), some (.int p0), some (.int (24 : Int32))]) rfl ?_
  exact (pX35_lay_b3 hd N _ _ _ _ _ hf).to ⟨rfl, rfl, rfl, trivial⟩
abbrev cX35_feed : ByteArray := prog_37_method_4_code
def yX35_feed : MethodName := ⟨RX35, "feed", "(IIIII)V"⟩
def YX35_feed : eY := (yX35_feed, cX35_feed, 6, none, [])
theorem mX35_feed : e_mv YX35_feed RX35 5 := ⟨q4894, q4895, q4896, by decide, by decide +kernel, (e_sig (by decide +kernel))⟩
theorem dX35_feed_0 : decode cX35_feed 0 = .ok (.aload_n 0, 1) := dc_42 (by decide +kernel)
theorem dX35_feed_1 : decode cX35_feed 1 = .ok (.aload_n 0, 1) := dc_42 (by decide +kernel)
theorem dX35_feed_2 : decode cX35_feed 2 = .ok (.getfield 255, 3) := dc_180 (a := 0) (b := 255) (n := 255) (by decide +kernel)
theorem dX35_feed_5 : decode cX35_feed 5 = .ok (.bipush 20, 2) := dc_16 (a := 20) (v := 20) (by decide +kernel)
theorem dX35_feed_7 : decode cX35_feed 7 = .ok (.iadd, 1) := dc_96 (by decide +kernel)
theorem dX35_feed_8 : decode cX35_feed 8 = .ok (.ldc 7, 2) := dc_18 (a := 7) (by decide +kernel)
theorem dX35_feed_10 : decode cX35_feed 10 = .ok (.if_icmp .le 7, 3) := dc_164 (a := 0) (b := 7) (v := 7) (by decide +kernel)
theorem dX35_feed_13 : decode cX35_feed 13 = .ok (.iconst 1, 1) := dc_4 (by decide +kernel)
theorem dX35_feed_14 : decode cX35_feed 14 = .ok (.goto 4, 3) := dc_167 (a := 0) (b := 4) (v := 4) (by decide +kernel)
theorem dX35_feed_17 : decode cX35_feed 17 = .ok (.iconst 0, 1) := dc_3 (by decide +kernel)
theorem dX35_feed_18 : decode cX35_feed 18 = .ok (.putfield 252, 3) := dc_181 (a := 0) (b := 252) (n := 252) (by decide +kernel)
theorem dX35_feed_21 : decode cX35_feed 21 = .ok (.aload_n 0, 1) := dc_42 (by decide +kernel)
theorem dX35_feed_22 : decode cX35_feed 22 = .ok (.getfield 252, 3) := dc_180 (a := 0) (b := 252) (n := 252) (by decide +kernel)
theorem dX35_feed_25 : decode cX35_feed 25 = .ok (.ifCond .ne 30, 3) := dc_154 (a := 0) (b := 30) (v := 30) (by decide +kernel)
theorem dX35_feed_28 : decode cX35_feed 28 = .ok (.aload_n 0, 1) := dc_42 (by decide +kernel)
theorem dX35_feed_29 : decode cX35_feed 29 = .ok (.iload_n 1, 1) := dc_27 (by decide +kernel)
theorem dX35_feed_30 : decode cX35_feed 30 = .ok (.invokevirtual 258, 3) := dc_182 (a := 1) (b := 2) (n := 258) (by decide +kernel)
theorem dX35_feed_33 : decode cX35_feed 33 = .ok (.aload_n 0, 1) := dc_42 (by decide +kernel)
theorem dX35_feed_34 : decode cX35_feed 34 = .ok (.iload_n 2, 1) := dc_28 (by decide +kernel)
theorem dX35_feed_35 : decode cX35_feed 35 = .ok (.invokevirtual 258, 3) := dc_182 (a := 1) (b := 2) (n := 258) (by decide +kernel)
theorem dX35_feed_38 : decode cX35_feed 38 = .ok (.aload_n 0, 1) := dc_42 (by decide +kernel)
theorem dX35_feed_39 : decode cX35_feed 39 = .ok (.iload_n 3, 1) := dc_29 (by decide +kernel)
theorem dX35_feed_40 : decode cX35_feed 40 = .ok (.invokevirtual 258, 3) := dc_182 (a := 1) (b := 2) (n := 258) (by decide +kernel)
theorem dX35_feed_43 : decode cX35_feed 43 = .ok (.aload_n 0, 1) := dc_42 (by decide +kernel)
theorem dX35_feed_44 : decode cX35_feed 44 = .ok (.iload 4, 2) := dc_21 (a := 4) (by decide +kernel)
theorem dX35_feed_46 : decode cX35_feed 46 = .ok (.invokevirtual 258, 3) := dc_182 (a := 1) (b := 2) (n := 258) (by decide +kernel)
theorem dX35_feed_49 : decode cX35_feed 49 = .ok (.aload_n 0, 1) := dc_42 (by decide +kernel)
theorem dX35_feed_50 : decode cX35_feed 50 = .ok (.iload 5, 2) := dc_21 (a := 5) (by decide +kernel)
theorem dX35_feed_52 : decode cX35_feed 52 = .ok (.invokevirtual 258, 3) := dc_182 (a := 1) (b := 2) (n := 258) (by decide +kernel)
theorem dX35_feed_55 : decode cX35_feed 55 = .ok (.return_, 1) := dc_177 (by decide +kernel)
def fX35_feed_b55 (N : Nat)  (h : eH) : Option (Unit × eH) :=
  some ((), h)
theorem pX35_feed_b55 {w : eW} {d : Nat} (hd : 1 ≤ d + 1) {N : Nat}  {h : eH} {q} (hf : fX35_feed_b55 N h = some q) : wp w (d + 1) YX35_feed 55 [none, none, none, none, none, none] [] h (e_is (e_rn c_V q)) := by
  unfold fX35_feed_b55 at hf
  cases hf
  exact w_vret dX35_feed_55 rfl rfl
def fX35_feed_b18 (N : Nat) (l0 : Nat) (l1 : Int32) (l2 : Int32) (l3 : Int32) (l4 : Int32) (l5 : Int32) (s0 : Nat) (s1 : Int32) (h : eH) : Option (Unit × eH) :=
  (p_V 34 h s0 0 (.int s1)).bind fun h1 =>
  (g_I 34 h1 l0 0).bind fun x3 =>
  if ¬ x3 = 0 then
    fX35_feed_b55 N h1
  else
    (k_ok 34 h1 l0).bind fun _ =>
    (fX35_lay N l0 l1 h1).bind fun q7 =>
    (k_ok 34 q7.2 l0).bind fun _ =>
    (fX35_lay N l0 l2 q7.2).bind fun q9 =>
    (k_ok 34 q9.2 l0).bind fun _ =>
    (fX35_lay N l0 l3 q9.2).bind fun q11 =>
    (k_ok 34 q11.2 l0).bind fun _ =>
    (fX35_lay N l0 l4 q11.2).bind fun q13 =>
    (k_ok 34 q13.2 l0).bind fun _ =>
    (fX35_lay N l0 l5 q13.2).bind fun q15 =>
    fX35_feed_b55 N q15.2
theorem pX35_feed_b18 {w : eW} {d : Nat} (hd : 1 ≤ d + 1) {N : Nat} {l0 : Nat} {l1 : Int32} {l2 : Int32} {l3 : Int32} {l4 : Int32} {l5 : Int32} {s0 : Nat} {s1 : Int32} {h : eH} {q} (hf : fX35_feed_b18 N l0 l1 l2 l3 l4 l5 s0 s1 h = some q) : wp w (d + 1) YX35_feed 18 [some (.ref l0), some (.int l1), some (.int l2), some (.int l3), some (.int l4), some (.int l5)] [.int s1, .ref s0] h (e_is (e_rn c_V q)) := by
  unfold fX35_feed_b18 at hf
  obtain ⟨h1, b2, hf⟩ := Option.bind_eq_some_iff.mp hf
  refine SX35_252 b2 dX35_feed_18 rfl ?_
  refine w_aload_n dX35_feed_21 rfl rfl ?_
  obtain ⟨x3, b4, hf⟩ := Option.bind_eq_some_iff.mp hf
  refine GX35_252 b4 dX35_feed_22 rfl ?_
  refine w_if_ne 55 dX35_feed_25 (by decide) (fun c5 => ?_) (fun c5 => ?_)
  · replace hf := (if_pos (show ¬ x3 = 0 from c5)).symm.trans hf
    exact (pX35_feed_b55 hd hf).to trivial
  · replace hf := (if_neg (show ¬ (¬ x3 = 0) from (fun z => z c5))).symm.trans hf
    refine w_aload_n dX35_feed_28 rfl rfl ?_
    refine w_iload_n dX35_feed_29 rfl rfl ?_
    obtain ⟨_, b6, hf⟩ := Option.bind_eq_some_iff.mp hf
    refine x_cnV hf (e_stV (Yc := YX35_lay) (ci := 34) (av := [.int l1]) (st := []) dX35_feed_30 q4897 mX35_lay rfl (k_ok_some b6).1 (k_ok_some b6).2) mX35_lay.2.2.1 mX35_lay.2.2.2.2.1 (Nat.le_of_ble_eq_true rfl) (Nat.le_of_ble_eq_true rfl) (fun q hq => pX35_lay (by omega) hq) (fun q7 hf => ?_)
    refine w_aload_n dX35_feed_33 rfl rfl ?_
    refine w_iload_n dX35_feed_34 rfl rfl ?_
    obtain ⟨_, b8, hf⟩ := Option.bind_eq_some_iff.mp hf
    refine x_cnV hf (e_stV (Yc := YX35_lay) (ci := 34) (av := [.int l2]) (st := []) dX35_feed_35 q4897 mX35_lay rfl (k_ok_some b8).1 (k_ok_some b8).2) mX35_lay.2.2.1 mX35_lay.2.2.2.2.1 (Nat.le_of_ble_eq_true rfl) (Nat.le_of_ble_eq_true rfl) (fun q hq => pX35_lay (by omega) hq) (fun q9 hf => ?_)
    refine w_aload_n dX35_feed_38 rfl rfl ?_
    refine w_iload_n dX35_feed_39 rfl rfl ?_
    obtain ⟨_, b10, hf⟩ := Option.bind_eq_some_iff.mp hf
    refine x_cnV hf (e_stV (Yc := YX35_lay) (ci := 34) (av := [.int l3]) (st := []) dX35_feed_40 q4897 mX35_lay rfl (k_ok_some b10).1 (k_ok_some b10).2) mX35_lay.2.2.1 mX35_lay.2.2.2.2.1 (Nat.le_of_ble_eq_true rfl) (Nat.le_of_ble_eq_true rfl) (fun q hq => pX35_lay (by omega) hq) (fun q11 hf => ?_)
    refine w_aload_n dX35_feed_43 rfl rfl ?_
    refine w_iload dX35_feed_44 rfl ?_
    obtain ⟨_, b12, hf⟩ := Option.bind_eq_some_iff.mp hf
    refine x_cnV hf (e_stV (Yc := YX35_lay) (ci := 34) (av := [.int l4]) (st := []) dX35_feed_46 q4897 mX35_lay rfl (k_ok_some b12).1 (k_ok_some b12).2) mX35_lay.2.2.1 mX35_lay.2.2.2.2.1 (Nat.le_of_ble_eq_true rfl) (Nat.le_of_ble_eq_true rfl) (fun q hq => pX35_lay (by omega) hq) (fun q13 hf => ?_)
    refine w_aload_n dX35_feed_49 rfl rfl ?_
    refine w_iload dX35_feed_50 rfl ?_
    obtain ⟨_, b14, hf⟩ := Option.bind_eq_some_iff.mp hf
    refine x_cnV hf (e_stV (Yc := YX35_lay) (ci := 34) (av := [.int l5]) (st := []) dX35_feed_52 q4897 mX35_lay rfl (k_ok_some b14).1 (k_ok_some b14).2) mX35_lay.2.2.1 mX35_lay.2.2.2.2.1 (Nat.le_of_ble_eq_true rfl) (Nat.le_of_ble_eq_true rfl) (fun q hq => pX35_lay (by omega) hq) (fun q15 hf => ?_)
    exact (pX35_feed_b55 hd hf).to trivial
def fX35_feed (N : Nat) (this : Nat) (p0 : Int32) (p1 : Int32) (p2 : Int32) (p3 : Int32) (p4 : Int32) (h : eH) : Option (Unit × eH) :=
  (g_I 34 h this 1).bind fun x1 =>
  if (x1 + (20 : Int32)) ≤ (65536 : Int32) then
    fX35_feed_b18 N this p0 p1 p2 p3 p4 this (0 : Int32) h
  else
    fX35_feed_b18 N this p0 p1 p2 p3 p4 this (1 : Int32) h
theorem pX35_feed {w : eW} {d : Nat} (hd : 1 ≤ d) {N : Nat} {this : Nat} {p0 : Int32} {p1 : Int32} {p2 : Int32} {p3 : Int32} {p4 : Int32} {h : eH} {q} (hf : fX35_feed N this p0 p1 p2 p3 p4 h = some q) : wm w d YX35_feed [.ref this, .int p0, .int p1, .int p2, .int p3, .int p4] h (e_is (e_rn c_V q)) := by
  obtain ⟨d, rfl⟩ : ∃ e, d = e + 1 := ⟨d - 1, by omega⟩
  show wp w (d + 1) YX35_feed 0 [some (.ref this), some (.int p0), some (.int p1), some (.int p2), some (.int p3), some (.int p4)] [] h _
  unfold fX35_feed at hf
  refine w_aload_n dX35_feed_0 rfl rfl ?_
  refine w_aload_n dX35_feed_1 rfl rfl ?_
  obtain ⟨x1, b2, hf⟩ := Option.bind_eq_some_iff.mp hf
  refine GX35_255 b2 dX35_feed_2 rfl ?_
  refine w_bipush dX35_feed_5 (v := 20) (by decide) ?_
  refine w_iadd dX35_feed_7 ?_
  refine w_ldc dX35_feed_8 q4119 ?_
  refine w_icmp_le 17 dX35_feed_10 (by decide) (fun c3 => ?_) (fun c3 => ?_)
  · replace hf := (if_pos (show (x1 + (20 : Int32)) ≤ (65536 : Int32) from c3)).symm.trans hf
    refine w_iconst dX35_feed_17 (v := 0) (by decide) ?_
    exact (pX35_feed_b18 hd hf).to ⟨rfl, rfl, rfl, rfl, rfl, rfl, trivial⟩
  · replace hf := (if_neg (show ¬ ((x1 + (20 : Int32)) ≤ (65536 : Int32)) from c3)).symm.trans hf
    refine w_iconst dX35_feed_13 (v := 1) (by decide) ?_
    refine w_goto 18 dX35_feed_14 (by decide) ?_
    exact (pX35_feed_b18 hd hf).to ⟨rfl, rfl, rfl, rfl, rfl, rfl, trivial⟩
abbrev cX35_fuel : ByteArray := prog_37_method_5_code
def yX35_fuel : MethodName := ⟨RX35, "fuel", "(I)V"⟩
def YX35_fuel : eY := (yX35_fuel, cX35_fuel, 2, none, [])
theorem mX35_fuel : e_mv YX35_fuel RX35 1 := ⟨q4902, q4903, q4904, by decide, by decide +kernel, (e_sig (by decide +kernel))⟩
theorem dX35_fuel_0 : decode cX35_fuel 0 = .ok (.aload_n 0, 1) := dc_42 (by decide +kernel)
theorem dX35_fuel_1 : decode cX35_fuel 1 = .ok (.iload_n 1, 1) := dc_27 (by decide +kernel)
theorem dX35_fuel_2 : decode cX35_fuel 2 = .ok (.ifCond .lt 10, 3) := dc_155 (a := 0) (b := 10) (v := 10) (by decide +kernel)
theorem dX35_fuel_5 : decode cX35_fuel 5 = .ok (.iload_n 1, 1) := dc_27 (by decide +kernel)
theorem dX35_fuel_6 : decode cX35_fuel 6 = .ok (.ldc_w 262, 3) := dc_19 (a := 1) (b := 6) (n := 262) (by decide +kernel)
theorem dX35_fuel_9 : decode cX35_fuel 9 = .ok (.if_icmp .le 7, 3) := dc_164 (a := 0) (b := 7) (v := 7) (by decide +kernel)
theorem dX35_fuel_12 : decode cX35_fuel 12 = .ok (.iconst 1, 1) := dc_4 (by decide +kernel)
theorem dX35_fuel_13 : decode cX35_fuel 13 = .ok (.goto 4, 3) := dc_167 (a := 0) (b := 4) (v := 4) (by decide +kernel)
theorem dX35_fuel_16 : decode cX35_fuel 16 = .ok (.iconst 0, 1) := dc_3 (by decide +kernel)
theorem dX35_fuel_17 : decode cX35_fuel 17 = .ok (.putfield 252, 3) := dc_181 (a := 0) (b := 252) (n := 252) (by decide +kernel)
theorem dX35_fuel_20 : decode cX35_fuel 20 = .ok (.aload_n 0, 1) := dc_42 (by decide +kernel)
theorem dX35_fuel_21 : decode cX35_fuel 21 = .ok (.aload_n 0, 1) := dc_42 (by decide +kernel)
theorem dX35_fuel_22 : decode cX35_fuel 22 = .ok (.getfield 252, 3) := dc_180 (a := 0) (b := 252) (n := 252) (by decide +kernel)
theorem dX35_fuel_25 : decode cX35_fuel 25 = .ok (.ifCond .le 10, 3) := dc_158 (a := 0) (b := 10) (v := 10) (by decide +kernel)
theorem dX35_fuel_28 : decode cX35_fuel 28 = .ok (.aload_n 0, 1) := dc_42 (by decide +kernel)
theorem dX35_fuel_29 : decode cX35_fuel 29 = .ok (.getfield 15, 3) := dc_180 (a := 0) (b := 15) (n := 15) (by decide +kernel)
theorem dX35_fuel_32 : decode cX35_fuel 32 = .ok (.goto 4, 3) := dc_167 (a := 0) (b := 4) (v := 4) (by decide +kernel)
theorem dX35_fuel_35 : decode cX35_fuel 35 = .ok (.iload_n 1, 1) := dc_27 (by decide +kernel)
theorem dX35_fuel_36 : decode cX35_fuel 36 = .ok (.putfield 15, 3) := dc_181 (a := 0) (b := 15) (n := 15) (by decide +kernel)
theorem dX35_fuel_39 : decode cX35_fuel 39 = .ok (.return_, 1) := dc_177 (by decide +kernel)
def fX35_fuel_b36 (s0 : Nat) (s1 : Int32) (h : eH) : Option (Unit × eH) :=
  (p_V 34 h s0 3 (.int s1)).bind fun h1 =>
  some ((), h1)
theorem pX35_fuel_b36 {w : eW} {d : Nat} (hd : 0 ≤ d) {s0 : Nat} {s1 : Int32} {h : eH} {q} (hf : fX35_fuel_b36 s0 s1 h = some q) : wp w d YX35_fuel 36 [none, none] [.int s1, .ref s0] h (e_is (e_rn c_V q)) := by
  unfold fX35_fuel_b36 at hf
  obtain ⟨h1, b2, hf⟩ := Option.bind_eq_some_iff.mp hf
  refine SX35_15 b2 dX35_fuel_36 rfl ?_
  cases hf
  exact w_vret dX35_fuel_39 rfl rfl
def fX35_fuel_b17 (l0 : Nat) (l1 : Int32) (s0 : Nat) (s1 : Int32) (h : eH) : Option (Unit × eH) :=
  (p_V 34 h s0 0 (.int s1)).bind fun h1 =>
  (g_I 34 h1 l0 0).bind fun x3 =>
  if x3 ≤ 0 then
    fX35_fuel_b36 l0 l1 h1
  else
    (g_I 34 h1 l0 3).bind fun x6 =>
    fX35_fuel_b36 l0 x6 h1
theorem pX35_fuel_b17 {w : eW} {d : Nat} (hd : 0 ≤ d) {l0 : Nat} {l1 : Int32} {s0 : Nat} {s1 : Int32} {h : eH} {q} (hf : fX35_fuel_b17 l0 l1 s0 s1 h = some q) : wp w d YX35_fuel 17 [some (.ref l0), some (.int l1)] [.int s1, .ref s0] h (e_is (e_rn c_V q)) := by
  unfold fX35_fuel_b17 at hf
  obtain ⟨h1, b2, hf⟩ := Option.bind_eq_some_iff.mp hf
  refine SX35_252 b2 dX35_fuel_17 rfl ?_
  refine w_aload_n dX35_fuel_20 rfl rfl ?_
  refine w_aload_n dX35_fuel_21 rfl rfl ?_
  obtain ⟨x3, b4, hf⟩ := Option.bind_eq_some_iff.mp hf
  refine GX35_252 b4 dX35_fuel_22 rfl ?_
  refine w_if_le 35 dX35_fuel_25 (by decide) (fun c5 => ?_) (fun c5 => ?_)
  · replace hf := (if_pos (show x3 ≤ 0 from c5)).symm.trans hf
    refine w_iload_n dX35_fuel_35 rfl rfl ?_
    exact (pX35_fuel_b36 hd hf).to trivial
  · replace hf := (if_neg (show ¬ (x3 ≤ 0) from c5)).symm.trans hf
    refine w_aload_n dX35_fuel_28 rfl rfl ?_
    obtain ⟨x6, b7, hf⟩ := Option.bind_eq_some_iff.mp hf
    refine GX35_15 b7 dX35_fuel_29 rfl ?_
    refine w_goto 36 dX35_fuel_32 (by decide) ?_
    exact (pX35_fuel_b36 hd hf).to trivial
def fX35_fuel_b12 (l0 : Nat) (l1 : Int32) (s0 : Nat) (h : eH) : Option (Unit × eH) :=
  fX35_fuel_b17 l0 l1 s0 (1 : Int32) h
theorem pX35_fuel_b12 {w : eW} {d : Nat} (hd : 0 ≤ d) {l0 : Nat} {l1 : Int32} {s0 : Nat} {h : eH} {q} (hf : fX35_fuel_b12 l0 l1 s0 h = some q) : wp w d YX35_fuel 12 [some (.ref l0), some (.int l1)] [.ref s0] h (e_is (e_rn c_V q)) := by
  unfold fX35_fuel_b12 at hf
  refine w_iconst dX35_fuel_12 (v := 1) (by decide) ?_
  refine w_goto 17 dX35_fuel_13 (by decide) ?_
  exact (pX35_fuel_b17 hd hf).to ⟨rfl, rfl, trivial⟩
def fX35_fuel (this : Nat) (p0 : Int32) (h : eH) : Option (Unit × eH) :=
  if p0 < 0 then
    fX35_fuel_b12 this p0 this h
  else
    if p0 ≤ (200000 : Int32) then
      fX35_fuel_b17 this p0 this (0 : Int32) h
    else
      fX35_fuel_b12 this p0 this h
theorem pX35_fuel {w : eW} {d : Nat} (hd : 0 ≤ d) {this : Nat} {p0 : Int32} {h : eH} {q} (hf : fX35_fuel this p0 h = some q) : wm w d YX35_fuel [.ref this, .int p0] h (e_is (e_rn c_V q)) := by
  show wp w d YX35_fuel 0 [some (.ref this), some (.int p0)] [] h _
  unfold fX35_fuel at hf
  refine w_aload_n dX35_fuel_0 rfl rfl ?_
  refine w_iload_n dX35_fuel_1 rfl rfl ?_
  refine w_if_lt 12 dX35_fuel_2 (by decide) (fun c1 => ?_) (fun c1 => ?_)
  · replace hf := (if_pos (show p0 < 0 from c1)).symm.trans hf
    exact (pX35_fuel_b12 hd hf).to ⟨rfl, rfl, trivial⟩
  · replace hf := (if_neg (show ¬ (p0 < 0) from c1)).symm.trans hf
    refine w_iload_n dX35_fuel_5 rfl rfl ?_
    refine w_ldc_w dX35_fuel_6 q4905 ?_
    refine w_icmp_le 16 dX35_fuel_9 (by decide) (fun c2 => ?_) (fun c2 => ?_)
    · replace hf := (if_pos (show p0 ≤ (200000 : Int32) from c2)).symm.trans hf
      refine w_iconst dX35_fuel_16 (v := 0) (by decide) ?_
      exact (pX35_fuel_b17 hd hf).to ⟨rfl, rfl, trivial⟩
    · replace hf := (if_neg (show ¬ (p0 ≤ (200000 : Int32)) from c2)).symm.trans hf
      exact (pX35_fuel_b12 hd hf).to ⟨rfl, rfl, trivial⟩
abbrev cX35_nearest : ByteArray := prog_37_method_141_code
def yX35_nearest : MethodName := ⟨RX35, "nearest", "(JJ)J"⟩
def YX35_nearest : eY := (yX35_nearest, cX35_nearest, 8, (Option.some FieldType.long), [])
theorem mX35_nearest : e_ms YX35_nearest 2 := ⟨q5572, q466, q5573, by decide, by decide +kernel, (e_sig (by decide +kernel))⟩
theorem dX35_nearest_0 : decode cX35_nearest 0 = .ok (.lload_n 0, 1) := dc_30 (by decide +kernel)
theorem dX35_nearest_1 : decode cX35_nearest 1 = .ok (.lconst 0, 1) := dc_9 (by decide +kernel)
theorem dX35_nearest_2 : decode cX35_nearest 2 = .ok (.lcmp, 1) := dc_148 (by decide +kernel)
theorem dX35_nearest_3 : decode cX35_nearest 3 = .ok (.ifCond .ge 8, 3) := dc_156 (a := 0) (b := 8) (v := 8) (by decide +kernel)
theorem dX35_nearest_6 : decode cX35_nearest 6 = .ok (.lload_n 0, 1) := dc_30 (by decide +kernel)
theorem dX35_nearest_7 : decode cX35_nearest 7 = .ok (.lneg, 1) := dc_117 (by decide +kernel)
theorem dX35_nearest_8 : decode cX35_nearest 8 = .ok (.goto 4, 3) := dc_167 (a := 0) (b := 4) (v := 4) (by decide +kernel)
theorem dX35_nearest_11 : decode cX35_nearest 11 = .ok (.lload_n 0, 1) := dc_30 (by decide +kernel)
theorem dX35_nearest_12 : decode cX35_nearest 12 = .ok (.lstore 4, 2) := dc_55 (a := 4) (by decide +kernel)
theorem dX35_nearest_14 : decode cX35_nearest 14 = .ok (.lload 4, 2) := dc_22 (a := 4) (by decide +kernel)
theorem dX35_nearest_16 : decode cX35_nearest 16 = .ok (.lload_n 2, 1) := dc_32 (by decide +kernel)
theorem dX35_nearest_17 : decode cX35_nearest 17 = .ok (.ldiv, 1) := dc_109 (by decide +kernel)
theorem dX35_nearest_18 : decode cX35_nearest 18 = .ok (.lstore 6, 2) := dc_55 (a := 6) (by decide +kernel)
theorem dX35_nearest_20 : decode cX35_nearest 20 = .ok (.lload 4, 2) := dc_22 (a := 4) (by decide +kernel)
theorem dX35_nearest_22 : decode cX35_nearest 22 = .ok (.lload_n 2, 1) := dc_32 (by decide +kernel)
theorem dX35_nearest_23 : decode cX35_nearest 23 = .ok (.lrem, 1) := dc_113 (by decide +kernel)
theorem dX35_nearest_24 : decode cX35_nearest 24 = .ok (.lload_n 2, 1) := dc_32 (by decide +kernel)
theorem dX35_nearest_25 : decode cX35_nearest 25 = .ok (.lload 4, 2) := dc_22 (a := 4) (by decide +kernel)
theorem dX35_nearest_27 : decode cX35_nearest 27 = .ok (.lload_n 2, 1) := dc_32 (by decide +kernel)
theorem dX35_nearest_28 : decode cX35_nearest 28 = .ok (.lrem, 1) := dc_113 (by decide +kernel)
theorem dX35_nearest_29 : decode cX35_nearest 29 = .ok (.lsub, 1) := dc_101 (by decide +kernel)
theorem dX35_nearest_30 : decode cX35_nearest 30 = .ok (.lcmp, 1) := dc_148 (by decide +kernel)
theorem dX35_nearest_31 : decode cX35_nearest 31 = .ok (.ifCond .lt 10, 3) := dc_155 (a := 0) (b := 10) (v := 10) (by decide +kernel)
theorem dX35_nearest_34 : decode cX35_nearest 34 = .ok (.lload 6, 2) := dc_22 (a := 6) (by decide +kernel)
theorem dX35_nearest_36 : decode cX35_nearest 36 = .ok (.lconst 1, 1) := dc_10 (by decide +kernel)
theorem dX35_nearest_37 : decode cX35_nearest 37 = .ok (.ladd, 1) := dc_97 (by decide +kernel)
theorem dX35_nearest_38 : decode cX35_nearest 38 = .ok (.goto 5, 3) := dc_167 (a := 0) (b := 5) (v := 5) (by decide +kernel)
theorem dX35_nearest_41 : decode cX35_nearest 41 = .ok (.lload 6, 2) := dc_22 (a := 6) (by decide +kernel)
theorem dX35_nearest_43 : decode cX35_nearest 43 = .ok (.lstore 6, 2) := dc_55 (a := 6) (by decide +kernel)
theorem dX35_nearest_45 : decode cX35_nearest 45 = .ok (.lload_n 0, 1) := dc_30 (by decide +kernel)
theorem dX35_nearest_46 : decode cX35_nearest 46 = .ok (.lconst 0, 1) := dc_9 (by decide +kernel)
theorem dX35_nearest_47 : decode cX35_nearest 47 = .ok (.lcmp, 1) := dc_148 (by decide +kernel)
theorem dX35_nearest_48 : decode cX35_nearest 48 = .ok (.ifCond .ge 9, 3) := dc_156 (a := 0) (b := 9) (v := 9) (by decide +kernel)
theorem dX35_nearest_51 : decode cX35_nearest 51 = .ok (.lload 6, 2) := dc_22 (a := 6) (by decide +kernel)
theorem dX35_nearest_53 : decode cX35_nearest 53 = .ok (.lneg, 1) := dc_117 (by decide +kernel)
theorem dX35_nearest_54 : decode cX35_nearest 54 = .ok (.goto 5, 3) := dc_167 (a := 0) (b := 5) (v := 5) (by decide +kernel)
theorem dX35_nearest_57 : decode cX35_nearest 57 = .ok (.lload 6, 2) := dc_22 (a := 6) (by decide +kernel)
theorem dX35_nearest_59 : decode cX35_nearest 59 = .ok (.lreturn, 1) := dc_173 (by decide +kernel)
def fX35_nearest_b59 (s0 : Int64) (h : eH) : Option (Int64 × eH) :=
  some (s0, h)
theorem pX35_nearest_b59 {w : eW} {d : Nat} (hd : 0 ≤ d) {s0 : Int64} {h : eH} {q} (hf : fX35_nearest_b59 s0 h = some q) : wp w d YX35_nearest 59 [none, none, none, none, none, none, none, none] [.long s0] h (e_is (e_rn c_J q)) := by
  unfold fX35_nearest_b59 at hf
  cases hf
  exact w_lret dX35_nearest_59 rfl rfl
def fX35_nearest_b43 (l0 : Int64) (s0 : Int64) (h : eH) : Option (Int64 × eH) :=
  if 0 ≤ (lg_cmp l0 (0 : Int64)) then
    fX35_nearest_b59 s0 h
  else
    fX35_nearest_b59 (-s0) h
theorem pX35_nearest_b43 {w : eW} {d : Nat} (hd : 0 ≤ d) {l0 : Int64} {s0 : Int64} {h : eH} {q} (hf : fX35_nearest_b43 l0 s0 h = some q) : wp w d YX35_nearest 43 [some (.long l0), none, none, none, none, none, none, none] [.long s0] h (e_is (e_rn c_J q)) := by
  unfold fX35_nearest_b43 at hf
  refine w_lstore dX35_nearest_43 (by decide) (ls' := [some (.long l0), none, none, none, none, none, some (.long s0), none]) rfl ?_
  refine w_lload_n dX35_nearest_45 rfl rfl ?_
  refine w_lconst dX35_nearest_46 (v := 0) (by decide) ?_
  refine w_lcmp dX35_nearest_47 ?_
  refine w_if_ge 57 dX35_nearest_48 (by decide) (fun c1 => ?_) (fun c1 => ?_)
  · replace hf := (if_pos (show 0 ≤ (lg_cmp l0 (0 : Int64)) from c1)).symm.trans hf
    refine w_lload dX35_nearest_57 rfl ?_
    exact (pX35_nearest_b59 hd hf).to trivial
  · replace hf := (if_neg (show ¬ (0 ≤ (lg_cmp l0 (0 : Int64))) from c1)).symm.trans hf
    refine w_lload dX35_nearest_51 rfl ?_
    refine w_lneg dX35_nearest_53 ?_
    refine w_goto 59 dX35_nearest_54 (by decide) ?_
    exact (pX35_nearest_b59 hd hf).to trivial
def fX35_nearest_b12 (l0 : Int64) (l2 : Int64) (s0 : Int64) (h : eH) : Option (Int64 × eH) :=
  if l2 = 0 then none else
  if l2 = 0 then none else
  if l2 = 0 then none else
  if (lg_cmp (s0 - s0 / l2 * l2) (l2 - (s0 - s0 / l2 * l2))) < 0 then
    fX35_nearest_b43 l0 (s0 / l2) h
  else
    fX35_nearest_b43 l0 ((s0 / l2) + (1 : Int64)) h
theorem pX35_nearest_b12 {w : eW} {d : Nat} (hd : 0 ≤ d) {l0 : Int64} {l2 : Int64} {s0 : Int64} {h : eH} {q} (hf : fX35_nearest_b12 l0 l2 s0 h = some q) : wp w d YX35_nearest 12 [some (.long l0), none, some (.long l2), none, none, none, none, none] [.long s0] h (e_is (e_rn c_J q)) := by
  unfold fX35_nearest_b12 at hf
  refine w_lstore dX35_nearest_12 (by decide) (ls' := [some (.long l0), none, some (.long l2), none, some (.long s0), none, none, none]) rfl ?_
  refine w_lload dX35_nearest_14 rfl ?_
  refine w_lload_n dX35_nearest_16 rfl rfl ?_
  by_cases c1 : l2 = 0
  · exact absurd ((if_pos c1).symm.trans hf) (by simp)
  replace hf := (if_neg c1).symm.trans hf
  refine w_ldiv dX35_nearest_17 c1 ?_
  refine w_lstore dX35_nearest_18 (by decide) (ls' := [some (.long l0), none, some (.long l2), none, some (.long s0), none, some (.long (s0 / l2)), none]) rfl ?_
  refine w_lload dX35_nearest_20 rfl ?_
  refine w_lload_n dX35_nearest_22 rfl rfl ?_
  by_cases c2 : l2 = 0
  · exact absurd ((if_pos c2).symm.trans hf) (by simp)
  replace hf := (if_neg c2).symm.trans hf
  refine w_lrem dX35_nearest_23 c2 ?_
  refine w_lload_n dX35_nearest_24 rfl rfl ?_
  refine w_lload dX35_nearest_25 rfl ?_
  refine w_lload_n dX35_nearest_27 rfl rfl ?_
  by_cases c3 : l2 = 0
  · exact absurd ((if_pos c3).symm.trans hf) (by simp)
  replace hf := (if_neg c3).symm.trans hf
  refine w_lrem dX35_nearest_28 c3 ?_
  refine w_lsub dX35_nearest_29 ?_
  refine w_lcmp dX35_nearest_30 ?_
  refine w_if_lt 41 dX35_nearest_31 (by decide) (fun c4 => ?_) (fun c4 => ?_)
  · replace hf := (if_pos (show (lg_cmp (s0 - s0 / l2 * l2) (l2 - (s0 - s0 / l2 * l2))) < 0 from c4)).symm.trans hf
    refine w_lload dX35_nearest_41 rfl ?_
    exact (pX35_nearest_b43 hd hf).to ⟨rfl, trivial⟩
  · replace hf := (if_neg (show ¬ ((lg_cmp (s0 - s0 / l2 * l2) (l2 - (s0 - s0 / l2 * l2))) < 0) from c4)).symm.trans hf
    refine w_lload dX35_nearest_34 rfl ?_
    refine w_lconst dX35_nearest_36 (v := 1) (by decide) ?_
    refine w_ladd dX35_nearest_37 ?_
    refine w_goto 43 dX35_nearest_38 (by decide) ?_
    exact (pX35_nearest_b43 hd hf).to ⟨rfl, trivial⟩
def fX35_nearest (p0 : Int64) (p1 : Int64) (h : eH) : Option (Int64 × eH) :=
  if 0 ≤ (lg_cmp p0 (0 : Int64)) then
    fX35_nearest_b12 p0 p1 p0 h
  else
    fX35_nearest_b12 p0 p1 (-p0) h
theorem pX35_nearest {w : eW} {d : Nat} (hd : 0 ≤ d) {p0 : Int64} {p1 : Int64} {h : eH} {q} (hf : fX35_nearest p0 p1 h = some q) : wm w d YX35_nearest [.long p0, .long p1] h (e_is (e_rn c_J q)) := by
  show wp w d YX35_nearest 0 [some (.long p0), none, some (.long p1), none, none, none, none, none] [] h _
  unfold fX35_nearest at hf
  refine w_lload_n dX35_nearest_0 rfl rfl ?_
  refine w_lconst dX35_nearest_1 (v := 0) (by decide) ?_
  refine w_lcmp dX35_nearest_2 ?_
  refine w_if_ge 11 dX35_nearest_3 (by decide) (fun c1 => ?_) (fun c1 => ?_)
  · replace hf := (if_pos (show 0 ≤ (lg_cmp p0 (0 : Int64)) from c1)).symm.trans hf
    refine w_lload_n dX35_nearest_11 rfl rfl ?_
    exact (pX35_nearest_b12 hd hf).to ⟨rfl, rfl, trivial⟩
  · replace hf := (if_neg (show ¬ (0 ≤ (lg_cmp p0 (0 : Int64))) from c1)).symm.trans hf
    refine w_lload_n dX35_nearest_6 rfl rfl ?_
    refine w_lneg dX35_nearest_7 ?_
    refine w_goto 12 dX35_nearest_8 (by decide) ?_
    exact (pX35_nearest_b12 hd hf).to ⟨rfl, rfl, trivial⟩
abbrev cX35_placeOf : ByteArray := prog_37_method_142_code
def yX35_placeOf : MethodName := ⟨RX35, "placeOf", "(II)J"⟩
def YX35_placeOf : eY := (yX35_placeOf, cX35_placeOf, 10, (Option.some FieldType.long), [])
theorem mX35_placeOf : e_mv YX35_placeOf RX35 2 := ⟨q5544, qs328, q5545, by decide, by decide +kernel, (e_sig (by decide +kernel))⟩
theorem dX35_placeOf_0 : decode cX35_placeOf 0 = .ok (.aload_n 0, 1) := dc_42 (by decide +kernel)
theorem dX35_placeOf_1 : decode cX35_placeOf 1 = .ok (.invokevirtual 991, 3) := dc_182 (a := 3) (b := 223) (n := 991) (by decide +kernel)
theorem dX35_placeOf_4 : decode cX35_placeOf 4 = .ok (.lconst 0, 1) := dc_9 (by decide +kernel)
theorem dX35_placeOf_5 : decode cX35_placeOf 5 = .ok (.lstore_n 3, 1) := dc_66 (by decide +kernel)
theorem dX35_placeOf_6 : decode cX35_placeOf 6 = .ok (.aload_n 0, 1) := dc_42 (by decide +kernel)
theorem dX35_placeOf_7 : decode cX35_placeOf 7 = .ok (.getfield 151, 3) := dc_180 (a := 0) (b := 151) (n := 151) (by decide +kernel)
theorem dX35_placeOf_10 : decode cX35_placeOf 10 = .ok (.iload_n 1, 1) := dc_27 (by decide +kernel)
theorem dX35_placeOf_11 : decode cX35_placeOf 11 = .ok (.iaload, 1) := dc_46 (by decide +kernel)
theorem dX35_placeOf_12 : decode cX35_placeOf 12 = .ok (.iload_n 2, 1) := dc_28 (by decide +kernel)
theorem dX35_placeOf_13 : decode cX35_placeOf 13 = .ok (.iadd, 1) := dc_96 (by decide +kernel)
theorem dX35_placeOf_14 : decode cX35_placeOf 14 = .ok (.istore 5, 2) := dc_54 (a := 5) (by decide +kernel)
theorem dX35_placeOf_16 : decode cX35_placeOf 16 = .ok (.aload_n 0, 1) := dc_42 (by decide +kernel)
theorem dX35_placeOf_17 : decode cX35_placeOf 17 = .ok (.getfield 151, 3) := dc_180 (a := 0) (b := 151) (n := 151) (by decide +kernel)
theorem dX35_placeOf_20 : decode cX35_placeOf 20 = .ok (.iload_n 1, 1) := dc_27 (by decide +kernel)
theorem dX35_placeOf_21 : decode cX35_placeOf 21 = .ok (.iaload, 1) := dc_46 (by decide +kernel)
theorem dX35_placeOf_22 : decode cX35_placeOf 22 = .ok (.istore 6, 2) := dc_54 (a := 6) (by decide +kernel)
theorem dX35_placeOf_24 : decode cX35_placeOf 24 = .ok (.iload 6, 2) := dc_21 (a := 6) (by decide +kernel)
theorem dX35_placeOf_26 : decode cX35_placeOf 26 = .ok (.iload 5, 2) := dc_21 (a := 5) (by decide +kernel)
theorem dX35_placeOf_28 : decode cX35_placeOf 28 = .ok (.if_icmp .ge 121, 3) := dc_162 (a := 0) (b := 121) (v := 121) (by decide +kernel)
theorem dX35_placeOf_31 : decode cX35_placeOf 31 = .ok (.aload_n 0, 1) := dc_42 (by decide +kernel)
theorem dX35_placeOf_32 : decode cX35_placeOf 32 = .ok (.aload_n 0, 1) := dc_42 (by decide +kernel)
theorem dX35_placeOf_33 : decode cX35_placeOf 33 = .ok (.getfield 185, 3) := dc_180 (a := 0) (b := 185) (n := 185) (by decide +kernel)
theorem dX35_placeOf_36 : decode cX35_placeOf 36 = .ok (.bipush 6, 2) := dc_16 (a := 6) (v := 6) (by decide +kernel)
theorem dX35_placeOf_38 : decode cX35_placeOf 38 = .ok (.iload 6, 2) := dc_21 (a := 6) (by decide +kernel)
theorem dX35_placeOf_40 : decode cX35_placeOf 40 = .ok (.imul, 1) := dc_104 (by decide +kernel)
theorem dX35_placeOf_41 : decode cX35_placeOf 41 = .ok (.aload_n 0, 1) := dc_42 (by decide +kernel)
theorem dX35_placeOf_42 : decode cX35_placeOf 42 = .ok (.getfield 154, 3) := dc_180 (a := 0) (b := 154) (n := 154) (by decide +kernel)
theorem dX35_placeOf_45 : decode cX35_placeOf 45 = .ok (.iload_n 1, 1) := dc_27 (by decide +kernel)
theorem dX35_placeOf_46 : decode cX35_placeOf 46 = .ok (.baload, 1) := dc_51 (by decide +kernel)
theorem dX35_placeOf_47 : decode cX35_placeOf 47 = .ok (.invokevirtual 994, 3) := dc_182 (a := 3) (b := 226) (n := 994) (by decide +kernel)
theorem dX35_placeOf_50 : decode cX35_placeOf 50 = .ok (.aload_n 0, 1) := dc_42 (by decide +kernel)
theorem dX35_placeOf_51 : decode cX35_placeOf 51 = .ok (.getfield 185, 3) := dc_180 (a := 0) (b := 185) (n := 185) (by decide +kernel)
theorem dX35_placeOf_54 : decode cX35_placeOf 54 = .ok (.bipush 6, 2) := dc_16 (a := 6) (v := 6) (by decide +kernel)
theorem dX35_placeOf_56 : decode cX35_placeOf 56 = .ok (.iload 6, 2) := dc_21 (a := 6) (by decide +kernel)
theorem dX35_placeOf_58 : decode cX35_placeOf 58 = .ok (.imul, 1) := dc_104 (by decide +kernel)
theorem dX35_placeOf_59 : decode cX35_placeOf 59 = .ok (.iaload, 1) := dc_46 (by decide +kernel)
theorem dX35_placeOf_60 : decode cX35_placeOf 60 = .ok (.iconst 2, 1) := dc_5 (by decide +kernel)
theorem dX35_placeOf_61 : decode cX35_placeOf 61 = .ok (.if_icmp .ne 31, 3) := dc_160 (a := 0) (b := 31) (v := 31) (by decide +kernel)
theorem dX35_placeOf_64 : decode cX35_placeOf 64 = .ok (.aload_n 0, 1) := dc_42 (by decide +kernel)
theorem dX35_placeOf_65 : decode cX35_placeOf 65 = .ok (.getfield 166, 3) := dc_180 (a := 0) (b := 166) (n := 166) (by decide +kernel)
theorem dX35_placeOf_68 : decode cX35_placeOf 68 = .ok (.iload_n 1, 1) := dc_27 (by decide +kernel)
theorem dX35_placeOf_69 : decode cX35_placeOf 69 = .ok (.iaload, 1) := dc_46 (by decide +kernel)
theorem dX35_placeOf_70 : decode cX35_placeOf 70 = .ok (.ifCond .ge 22, 3) := dc_156 (a := 0) (b := 22) (v := 22) (by decide +kernel)
theorem dX35_placeOf_73 : decode cX35_placeOf 73 = .ok (.lload_n 3, 1) := dc_33 (by decide +kernel)
theorem dX35_placeOf_74 : decode cX35_placeOf 74 = .ok (.aload_n 0, 1) := dc_42 (by decide +kernel)
theorem dX35_placeOf_75 : decode cX35_placeOf 75 = .ok (.getfield 185, 3) := dc_180 (a := 0) (b := 185) (n := 185) (by decide +kernel)
theorem dX35_placeOf_78 : decode cX35_placeOf 78 = .ok (.bipush 6, 2) := dc_16 (a := 6) (v := 6) (by decide +kernel)
theorem dX35_placeOf_80 : decode cX35_placeOf 80 = .ok (.iload 6, 2) := dc_21 (a := 6) (by decide +kernel)
theorem dX35_placeOf_82 : decode cX35_placeOf 82 = .ok (.imul, 1) := dc_104 (by decide +kernel)
theorem dX35_placeOf_83 : decode cX35_placeOf 83 = .ok (.iconst 4, 1) := dc_7 (by decide +kernel)
theorem dX35_placeOf_84 : decode cX35_placeOf 84 = .ok (.iadd, 1) := dc_96 (by decide +kernel)
theorem dX35_placeOf_85 : decode cX35_placeOf 85 = .ok (.iaload, 1) := dc_46 (by decide +kernel)
theorem dX35_placeOf_86 : decode cX35_placeOf 86 = .ok (.i2l, 1) := dc_133 (by decide +kernel)
theorem dX35_placeOf_87 : decode cX35_placeOf 87 = .ok (.ladd, 1) := dc_97 (by decide +kernel)
theorem dX35_placeOf_88 : decode cX35_placeOf 88 = .ok (.lstore_n 3, 1) := dc_66 (by decide +kernel)
theorem dX35_placeOf_89 : decode cX35_placeOf 89 = .ok (.goto 54, 3) := dc_167 (a := 0) (b := 54) (v := 54) (by decide +kernel)
theorem dX35_placeOf_92 : decode cX35_placeOf 92 = .ok (.aload_n 0, 1) := dc_42 (by decide +kernel)
theorem dX35_placeOf_93 : decode cX35_placeOf 93 = .ok (.getfield 185, 3) := dc_180 (a := 0) (b := 185) (n := 185) (by decide +kernel)
theorem dX35_placeOf_96 : decode cX35_placeOf 96 = .ok (.bipush 6, 2) := dc_16 (a := 6) (v := 6) (by decide +kernel)
theorem dX35_placeOf_98 : decode cX35_placeOf 98 = .ok (.iload 6, 2) := dc_21 (a := 6) (by decide +kernel)
theorem dX35_placeOf_100 : decode cX35_placeOf 100 = .ok (.imul, 1) := dc_104 (by decide +kernel)
theorem dX35_placeOf_101 : decode cX35_placeOf 101 = .ok (.iaload, 1) := dc_46 (by decide +kernel)
theorem dX35_placeOf_102 : decode cX35_placeOf 102 = .ok (.iconst 2, 1) := dc_5 (by decide +kernel)
theorem dX35_placeOf_103 : decode cX35_placeOf 103 = .ok (.if_icmp .ne 40, 3) := dc_160 (a := 0) (b := 40) (v := 40) (by decide +kernel)
theorem dX35_placeOf_106 : decode cX35_placeOf 106 = .ok (.aload_n 0, 1) := dc_42 (by decide +kernel)
theorem dX35_placeOf_107 : decode cX35_placeOf 107 = .ok (.getfield 185, 3) := dc_180 (a := 0) (b := 185) (n := 185) (by decide +kernel)
theorem dX35_placeOf_110 : decode cX35_placeOf 110 = .ok (.bipush 6, 2) := dc_16 (a := 6) (v := 6) (by decide +kernel)
theorem dX35_placeOf_112 : decode cX35_placeOf 112 = .ok (.iload 6, 2) := dc_21 (a := 6) (by decide +kernel)
theorem dX35_placeOf_114 : decode cX35_placeOf 114 = .ok (.imul, 1) := dc_104 (by decide +kernel)
theorem dX35_placeOf_115 : decode cX35_placeOf 115 = .ok (.iconst 3, 1) := dc_6 (by decide +kernel)
theorem dX35_placeOf_116 : decode cX35_placeOf 116 = .ok (.iadd, 1) := dc_96 (by decide +kernel)
theorem dX35_placeOf_117 : decode cX35_placeOf 117 = .ok (.iaload, 1) := dc_46 (by decide +kernel)
theorem dX35_placeOf_118 : decode cX35_placeOf 118 = .ok (.aload_n 0, 1) := dc_42 (by decide +kernel)
theorem dX35_placeOf_119 : decode cX35_placeOf 119 = .ok (.getfield 169, 3) := dc_180 (a := 0) (b := 169) (n := 169) (by decide +kernel)
theorem dX35_placeOf_122 : decode cX35_placeOf 122 = .ok (.iload_n 1, 1) := dc_27 (by decide +kernel)
theorem dX35_placeOf_123 : decode cX35_placeOf 123 = .ok (.iaload, 1) := dc_46 (by decide +kernel)
theorem dX35_placeOf_124 : decode cX35_placeOf 124 = .ok (.if_icmp .ne 19, 3) := dc_160 (a := 0) (b := 19) (v := 19) (by decide +kernel)
theorem dX35_placeOf_127 : decode cX35_placeOf 127 = .ok (.lload_n 3, 1) := dc_33 (by decide +kernel)
theorem dX35_placeOf_128 : decode cX35_placeOf 128 = .ok (.aload_n 0, 1) := dc_42 (by decide +kernel)
theorem dX35_placeOf_129 : decode cX35_placeOf 129 = .ok (.getfield 185, 3) := dc_180 (a := 0) (b := 185) (n := 185) (by decide +kernel)
theorem dX35_placeOf_132 : decode cX35_placeOf 132 = .ok (.bipush 6, 2) := dc_16 (a := 6) (v := 6) (by decide +kernel)
theorem dX35_placeOf_134 : decode cX35_placeOf 134 = .ok (.iload 6, 2) := dc_21 (a := 6) (by decide +kernel)
theorem dX35_placeOf_136 : decode cX35_placeOf 136 = .ok (.imul, 1) := dc_104 (by decide +kernel)
theorem dX35_placeOf_137 : decode cX35_placeOf 137 = .ok (.iconst 2, 1) := dc_5 (by decide +kernel)
theorem dX35_placeOf_138 : decode cX35_placeOf 138 = .ok (.iadd, 1) := dc_96 (by decide +kernel)
theorem dX35_placeOf_139 : decode cX35_placeOf 139 = .ok (.iaload, 1) := dc_46 (by decide +kernel)
theorem dX35_placeOf_140 : decode cX35_placeOf 140 = .ok (.i2l, 1) := dc_133 (by decide +kernel)
theorem dX35_placeOf_141 : decode cX35_placeOf 141 = .ok (.ladd, 1) := dc_97 (by decide +kernel)
theorem dX35_placeOf_142 : decode cX35_placeOf 142 = .ok (.lstore_n 3, 1) := dc_66 (by decide +kernel)
theorem dX35_placeOf_143 : decode cX35_placeOf 143 = .ok (.iinc 6 1, 3) := dc_132 (a := 6) (b := 1) (v := 1) (by decide +kernel)
theorem dX35_placeOf_146 : decode cX35_placeOf 146 = .ok (.goto (-122), 3) := dc_167 (a := 255) (b := 134) (v := -122) (by decide +kernel)
theorem dX35_placeOf_149 : decode cX35_placeOf 149 = .ok (.aload_n 0, 1) := dc_42 (by decide +kernel)
theorem dX35_placeOf_150 : decode cX35_placeOf 150 = .ok (.getfield 175, 3) := dc_180 (a := 0) (b := 175) (n := 175) (by decide +kernel)
theorem dX35_placeOf_153 : decode cX35_placeOf 153 = .ok (.iload_n 1, 1) := dc_27 (by decide +kernel)
theorem dX35_placeOf_154 : decode cX35_placeOf 154 = .ok (.iaload, 1) := dc_46 (by decide +kernel)
theorem dX35_placeOf_155 : decode cX35_placeOf 155 = .ok (.ifCond .le 14, 3) := dc_158 (a := 0) (b := 14) (v := 14) (by decide +kernel)
theorem dX35_placeOf_158 : decode cX35_placeOf 158 = .ok (.aload_n 0, 1) := dc_42 (by decide +kernel)
theorem dX35_placeOf_159 : decode cX35_placeOf 159 = .ok (.getfield 172, 3) := dc_180 (a := 0) (b := 172) (n := 172) (by decide +kernel)
theorem dX35_placeOf_162 : decode cX35_placeOf 162 = .ok (.iload_n 1, 1) := dc_27 (by decide +kernel)
theorem dX35_placeOf_163 : decode cX35_placeOf 163 = .ok (.iaload, 1) := dc_46 (by decide +kernel)
theorem dX35_placeOf_164 : decode cX35_placeOf 164 = .ok (.ineg, 1) := dc_116 (by decide +kernel)
theorem dX35_placeOf_165 : decode cX35_placeOf 165 = .ok (.i2l, 1) := dc_133 (by decide +kernel)
theorem dX35_placeOf_166 : decode cX35_placeOf 166 = .ok (.goto 10, 3) := dc_167 (a := 0) (b := 10) (v := 10) (by decide +kernel)
theorem dX35_placeOf_169 : decode cX35_placeOf 169 = .ok (.aload_n 0, 1) := dc_42 (by decide +kernel)
theorem dX35_placeOf_170 : decode cX35_placeOf 170 = .ok (.getfield 166, 3) := dc_180 (a := 0) (b := 166) (n := 166) (by decide +kernel)
theorem dX35_placeOf_173 : decode cX35_placeOf 173 = .ok (.iload_n 1, 1) := dc_27 (by decide +kernel)
theorem dX35_placeOf_174 : decode cX35_placeOf 174 = .ok (.iaload, 1) := dc_46 (by decide +kernel)
theorem dX35_placeOf_175 : decode cX35_placeOf 175 = .ok (.i2l, 1) := dc_133 (by decide +kernel)
theorem dX35_placeOf_176 : decode cX35_placeOf 176 = .ok (.lstore 6, 2) := dc_55 (a := 6) (by decide +kernel)
theorem dX35_placeOf_178 : decode cX35_placeOf 178 = .ok (.aload_n 0, 1) := dc_42 (by decide +kernel)
theorem dX35_placeOf_179 : decode cX35_placeOf 179 = .ok (.getfield 172, 3) := dc_180 (a := 0) (b := 172) (n := 172) (by decide +kernel)
theorem dX35_placeOf_182 : decode cX35_placeOf 182 = .ok (.iload_n 1, 1) := dc_27 (by decide +kernel)
theorem dX35_placeOf_183 : decode cX35_placeOf 183 = .ok (.iaload, 1) := dc_46 (by decide +kernel)
theorem dX35_placeOf_184 : decode cX35_placeOf 184 = .ok (.ifCond .ne 7, 3) := dc_154 (a := 0) (b := 7) (v := 7) (by decide +kernel)
theorem dX35_placeOf_187 : decode cX35_placeOf 187 = .ok (.lconst 0, 1) := dc_9 (by decide +kernel)
theorem dX35_placeOf_188 : decode cX35_placeOf 188 = .ok (.goto 17, 3) := dc_167 (a := 0) (b := 17) (v := 17) (by decide +kernel)
theorem dX35_placeOf_191 : decode cX35_placeOf 191 = .ok (.lload_n 3, 1) := dc_33 (by decide +kernel)
theorem dX35_placeOf_192 : decode cX35_placeOf 192 = .ok (.lload 6, 2) := dc_22 (a := 6) (by decide +kernel)
theorem dX35_placeOf_194 : decode cX35_placeOf 194 = .ok (.lmul, 1) := dc_105 (by decide +kernel)
theorem dX35_placeOf_195 : decode cX35_placeOf 195 = .ok (.aload_n 0, 1) := dc_42 (by decide +kernel)
theorem dX35_placeOf_196 : decode cX35_placeOf 196 = .ok (.getfield 172, 3) := dc_180 (a := 0) (b := 172) (n := 172) (by decide +kernel)
theorem dX35_placeOf_199 : decode cX35_placeOf 199 = .ok (.iload_n 1, 1) := dc_27 (by decide +kernel)
theorem dX35_placeOf_200 : decode cX35_placeOf 200 = .ok (.iaload, 1) := dc_46 (by decide +kernel)
theorem dX35_placeOf_201 : decode cX35_placeOf 201 = .ok (.i2l, 1) := dc_133 (by decide +kernel)
theorem dX35_placeOf_202 : decode cX35_placeOf 202 = .ok (.invokestatic 1003, 3) := dc_184 (a := 3) (b := 235) (n := 1003) (by decide +kernel)
theorem dX35_placeOf_205 : decode cX35_placeOf 205 = .ok (.lstore 8, 2) := dc_55 (a := 8) (by decide +kernel)
theorem dX35_placeOf_207 : decode cX35_placeOf 207 = .ok (.aload_n 0, 1) := dc_42 (by decide +kernel)
theorem dX35_placeOf_208 : decode cX35_placeOf 208 = .ok (.getfield 952, 3) := dc_180 (a := 3) (b := 184) (n := 952) (by decide +kernel)
theorem dX35_placeOf_211 : decode cX35_placeOf 211 = .ok (.aload_n 0, 1) := dc_42 (by decide +kernel)
theorem dX35_placeOf_212 : decode cX35_placeOf 212 = .ok (.getfield 154, 3) := dc_180 (a := 0) (b := 154) (n := 154) (by decide +kernel)
theorem dX35_placeOf_215 : decode cX35_placeOf 215 = .ok (.iload_n 1, 1) := dc_27 (by decide +kernel)
theorem dX35_placeOf_216 : decode cX35_placeOf 216 = .ok (.baload, 1) := dc_51 (by decide +kernel)
theorem dX35_placeOf_217 : decode cX35_placeOf 217 = .ok (.ifCond .eq 26, 3) := dc_153 (a := 0) (b := 26) (v := 26) (by decide +kernel)
theorem dX35_placeOf_220 : decode cX35_placeOf 220 = .ok (.aload_n 0, 1) := dc_42 (by decide +kernel)
theorem dX35_placeOf_221 : decode cX35_placeOf 221 = .ok (.getfield 185, 3) := dc_180 (a := 0) (b := 185) (n := 185) (by decide +kernel)
theorem dX35_placeOf_224 : decode cX35_placeOf 224 = .ok (.bipush 6, 2) := dc_16 (a := 6) (v := 6) (by decide +kernel)
theorem dX35_placeOf_226 : decode cX35_placeOf 226 = .ok (.iload 5, 2) := dc_21 (a := 5) (by decide +kernel)
theorem dX35_placeOf_228 : decode cX35_placeOf 228 = .ok (.imul, 1) := dc_104 (by decide +kernel)
theorem dX35_placeOf_229 : decode cX35_placeOf 229 = .ok (.iaload, 1) := dc_46 (by decide +kernel)
theorem dX35_placeOf_230 : decode cX35_placeOf 230 = .ok (.invokestatic 984, 3) := dc_184 (a := 3) (b := 216) (n := 984) (by decide +kernel)
theorem dX35_placeOf_233 : decode cX35_placeOf 233 = .ok (.ifCond .eq 10, 3) := dc_153 (a := 0) (b := 10) (v := 10) (by decide +kernel)
theorem dX35_placeOf_236 : decode cX35_placeOf 236 = .ok (.aload_n 0, 1) := dc_42 (by decide +kernel)
theorem dX35_placeOf_237 : decode cX35_placeOf 237 = .ok (.getfield 957, 3) := dc_180 (a := 3) (b := 189) (n := 957) (by decide +kernel)
theorem dX35_placeOf_240 : decode cX35_placeOf 240 = .ok (.goto 4, 3) := dc_167 (a := 0) (b := 4) (v := 4) (by decide +kernel)
theorem dX35_placeOf_243 : decode cX35_placeOf 243 = .ok (.lconst 0, 1) := dc_9 (by decide +kernel)
theorem dX35_placeOf_244 : decode cX35_placeOf 244 = .ok (.ladd, 1) := dc_97 (by decide +kernel)
theorem dX35_placeOf_245 : decode cX35_placeOf 245 = .ok (.lload 8, 2) := dc_22 (a := 8) (by decide +kernel)
theorem dX35_placeOf_247 : decode cX35_placeOf 247 = .ok (.ladd, 1) := dc_97 (by decide +kernel)
theorem dX35_placeOf_248 : decode cX35_placeOf 248 = .ok (.lreturn, 1) := dc_173 (by decide +kernel)
def fX35_placeOf_b143 (N : Nat) (k24 : Nat → Int32 → Int64 → Int32 → Int32 → eH → Option (Int64 × eH)) (l0 : Nat) (l1 : Int32) (l3 : Int64) (l5 : Int32) (l6 : Int32) (h : eH) : Option (Int64 × eH) :=
  k24 l0 l1 l3 l5 (l6 + (1 : Int32)) h
theorem pX35_placeOf_b143 {w : eW} {d : Nat} (hd : 4 ≤ d + 1) {N : Nat} {k24 : Nat → Int32 → Int64 → Int32 → Int32 → eH → Option (Int64 × eH)} (hk24 : ∀ l0 l1 l3 l5 l6 h q, k24 l0 l1 l3 l5 l6 h = some q → wp w (d + 1) YX35_placeOf 24 [some (.ref l0), some (.int l1), none, some (.long l3), none, some (.int l5), some (.int l6), none, none, none] [] h (e_is (e_rn c_J q))) {l0 : Nat} {l1 : Int32} {l3 : Int64} {l5 : Int32} {l6 : Int32} {h : eH} {q} (hf : fX35_placeOf_b143 N k24 l0 l1 l3 l5 l6 h = some q) : wp w (d + 1) YX35_placeOf 143 [some (.ref l0), some (.int l1), none, some (.long l3), none, some (.int l5), some (.int l6), none, none, none] [] h (e_is (e_rn c_J q)) := by
  unfold fX35_placeOf_b143 at hf
  refine w_iinc dX35_placeOf_143 (v := (l6 + (1 : Int32))) rfl rfl (by decide) (ls' := [some (.ref l0), some (.int l1), none, some (.long l3), none, some (.int l5), some (.int (l6 + (1 : Int32))), none, none, none]) rfl ?_
  refine w_goto 24 dX35_placeOf_146 (by decide) ?_
  exact (hk24 _ _ _ _ _ _ _ hf).to ⟨rfl, rfl, rfl, rfl, rfl, trivial⟩
def fX35_placeOf_b92 (N : Nat) (k24 : Nat → Int32 → Int64 → Int32 → Int32 → eH → Option (Int64 × eH)) (l0 : Nat) (l1 : Int32) (l3 : Int64) (l5 : Int32) (l6 : Int32) (h : eH) : Option (Int64 × eH) :=
  (g_A 34 h l0 77).bind fun a1 =>
  (r_I 100 h a1 ((6 : Int32) * l6)).bind fun x3 =>
  if ¬ x3 = (2 : Int32) then
    fX35_placeOf_b143 N k24 l0 l1 l3 l5 l6 h
  else
    (g_A 34 h l0 77).bind fun a6 =>
    (r_I 100 h a6 (((6 : Int32) * l6) + (3 : Int32))).bind fun x8 =>
    (g_A 34 h l0 72).bind fun a10 =>
    (r_I 100 h a10 l1).bind fun x12 =>
    if ¬ x8 = x12 then
      fX35_placeOf_b143 N k24 l0 l1 l3 l5 l6 h
    else
      (g_A 34 h l0 77).bind fun a15 =>
      (r_I 100 h a15 (((6 : Int32) * l6) + (2 : Int32))).bind fun x17 =>
      fX35_placeOf_b143 N k24 l0 l1 (l3 + (x17).toInt64) l5 l6 h
theorem pX35_placeOf_b92 {w : eW} {d : Nat} (hd : 4 ≤ d + 1) {N : Nat} {k24 : Nat → Int32 → Int64 → Int32 → Int32 → eH → Option (Int64 × eH)} (hk24 : ∀ l0 l1 l3 l5 l6 h q, k24 l0 l1 l3 l5 l6 h = some q → wp w (d + 1) YX35_placeOf 24 [some (.ref l0), some (.int l1), none, some (.long l3), none, some (.int l5), some (.int l6), none, none, none] [] h (e_is (e_rn c_J q))) {l0 : Nat} {l1 : Int32} {l3 : Int64} {l5 : Int32} {l6 : Int32} {h : eH} {q} (hf : fX35_placeOf_b92 N k24 l0 l1 l3 l5 l6 h = some q) : wp w (d + 1) YX35_placeOf 92 [some (.ref l0), some (.int l1), none, some (.long l3), none, some (.int l5), some (.int l6), none, none, none] [] h (e_is (e_rn c_J q)) := by
  unfold fX35_placeOf_b92 at hf
  refine w_aload_n dX35_placeOf_92 rfl rfl ?_
  obtain ⟨a1, b2, hf⟩ := Option.bind_eq_some_iff.mp hf
  refine GX35_185 b2 dX35_placeOf_93 rfl ?_
  refine w_bipush dX35_placeOf_96 (v := 6) (by decide) ?_
  refine w_iload dX35_placeOf_98 rfl ?_
  refine w_imul dX35_placeOf_100 ?_
  obtain ⟨x3, b4, hf⟩ := Option.bind_eq_some_iff.mp hf
  refine x_rI b4 dX35_placeOf_101 ?_
  refine w_iconst dX35_placeOf_102 (v := 2) (by decide) ?_
  refine w_icmp_ne 143 dX35_placeOf_103 (by decide) (fun c5 => ?_) (fun c5 => ?_)
  · replace hf := (if_pos (show ¬ x3 = (2 : Int32) from c5)).symm.trans hf
    exact (pX35_placeOf_b143 hd hk24 hf).to ⟨rfl, rfl, rfl, rfl, rfl, trivial⟩
  · replace hf := (if_neg (show ¬ (¬ x3 = (2 : Int32)) from (fun z => z c5))).symm.trans hf
    refine w_aload_n dX35_placeOf_106 rfl rfl ?_
    obtain ⟨a6, b7, hf⟩ := Option.bind_eq_some_iff.mp hf
    refine GX35_185 b7 dX35_placeOf_107 rfl ?_
    refine w_bipush dX35_placeOf_110 (v := 6) (by decide) ?_
    refine w_iload dX35_placeOf_112 rfl ?_
    refine w_imul dX35_placeOf_114 ?_
    refine w_iconst dX35_placeOf_115 (v := 3) (by decide) ?_
    refine w_iadd dX35_placeOf_116 ?_
    obtain ⟨x8, b9, hf⟩ := Option.bind_eq_some_iff.mp hf
    refine x_rI b9 dX35_placeOf_117 ?_
    refine w_aload_n dX35_placeOf_118 rfl rfl ?_
    obtain ⟨a10, b11, hf⟩ := Option.bind_eq_some_iff.mp hf
    refine GX35_169 b11 dX35_placeOf_119 rfl ?_
    refine w_iload_n dX35_placeOf_122 rfl rfl ?_
    obtain ⟨x12, b13, hf⟩ := Option.bind_eq_some_iff.mp hf
    refine x_rI b13 dX35_placeOf_123 ?_
    refine w_icmp_ne 143 dX35_placeOf_124 (by decide) (fun c14 => ?_) (fun c14 => ?_)
    · replace hf := (if_pos (show ¬ x8 = x12 from c14)).symm.trans hf
      exact (pX35_placeOf_b143 hd hk24 hf).to ⟨rfl, rfl, rfl, rfl, rfl, trivial⟩
    · replace hf := (if_neg (show ¬ (¬ x8 = x12) from (fun z => z c14))).symm.trans hf
      refine w_lload_n dX35_placeOf_127 rfl rfl ?_
      refine w_aload_n dX35_placeOf_128 rfl rfl ?_
      obtain ⟨a15, b16, hf⟩ := Option.bind_eq_some_iff.mp hf
      refine GX35_185 b16 dX35_placeOf_129 rfl ?_
      refine w_bipush dX35_placeOf_132 (v := 6) (by decide) ?_
      refine w_iload dX35_placeOf_134 rfl ?_
      refine w_imul dX35_placeOf_136 ?_
      refine w_iconst dX35_placeOf_137 (v := 2) (by decide) ?_
      refine w_iadd dX35_placeOf_138 ?_
      obtain ⟨x17, b18, hf⟩ := Option.bind_eq_some_iff.mp hf
      refine x_rI b18 dX35_placeOf_139 ?_
      refine w_i2l dX35_placeOf_140 ?_
      refine w_ladd dX35_placeOf_141 ?_
      refine w_lstore_n dX35_placeOf_142 rfl (by decide) (ls' := [some (.ref l0), some (.int l1), none, some (.long (l3 + (x17).toInt64)), none, some (.int l5), some (.int l6), none, none, none]) rfl ?_
      exact (pX35_placeOf_b143 hd hk24 hf).to ⟨rfl, rfl, rfl, rfl, rfl, trivial⟩
def fX35_placeOf_b244 (N : Nat) (l8 : Int64) (s0 : Int64) (s1 : Int64) (h : eH) : Option (Int64 × eH) :=
  some (((s0 + s1) + l8), h)
theorem pX35_placeOf_b244 {w : eW} {d : Nat} (hd : 4 ≤ d + 1) {N : Nat} {l8 : Int64} {s0 : Int64} {s1 : Int64} {h : eH} {q} (hf : fX35_placeOf_b244 N l8 s0 s1 h = some q) : wp w (d + 1) YX35_placeOf 244 [none, none, none, none, none, none, none, none, some (.long l8), none] [.long s1, .long s0] h (e_is (e_rn c_J q)) := by
  unfold fX35_placeOf_b244 at hf
  refine w_ladd dX35_placeOf_244 ?_
  refine w_lload dX35_placeOf_245 rfl ?_
  refine w_ladd dX35_placeOf_247 ?_
  cases hf
  exact w_lret dX35_placeOf_248 rfl rfl
def fX35_placeOf_b243 (N : Nat) (l8 : Int64) (s0 : Int64) (h : eH) : Option (Int64 × eH) :=
  fX35_placeOf_b244 N l8 s0 (0 : Int64) h
theorem pX35_placeOf_b243 {w : eW} {d : Nat} (hd : 4 ≤ d + 1) {N : Nat} {l8 : Int64} {s0 : Int64} {h : eH} {q} (hf : fX35_placeOf_b243 N l8 s0 h = some q) : wp w (d + 1) YX35_placeOf 243 [none, none, none, none, none, none, none, none, some (.long l8), none] [.long s0] h (e_is (e_rn c_J q)) := by
  unfold fX35_placeOf_b243 at hf
  refine w_lconst dX35_placeOf_243 (v := 0) (by decide) ?_
  exact (pX35_placeOf_b244 hd hf).to ⟨rfl, trivial⟩
def fX35_placeOf_b205 (N : Nat) (l0 : Nat) (l1 : Int32) (l5 : Int32) (s0 : Int64) (h : eH) : Option (Int64 × eH) :=
  (g_J 34 h l0 79).bind fun x1 =>
  (g_A 34 h l0 67).bind fun a3 =>
  (r_I 103 h a3 l1).bind fun x5 =>
  if x5 = 0 then
    fX35_placeOf_b243 N s0 x1 h
  else
    (g_A 34 h l0 77).bind fun a8 =>
    (r_I 100 h a8 ((6 : Int32) * l5)).bind fun x10 =>
    (fX35_isSolid x10 h).bind fun q12 =>
    if q12.1 = 0 then
      fX35_placeOf_b243 N s0 x1 q12.2
    else
      (g_J 34 q12.2 l0 80).bind fun x14 =>
      fX35_placeOf_b244 N s0 x1 x14 q12.2
theorem pX35_placeOf_b205 {w : eW} {d : Nat} (hd : 4 ≤ d + 1) {N : Nat} {l0 : Nat} {l1 : Int32} {l5 : Int32} {s0 : Int64} {h : eH} {q} (hf : fX35_placeOf_b205 N l0 l1 l5 s0 h = some q) : wp w (d + 1) YX35_placeOf 205 [some (.ref l0), some (.int l1), none, none, none, some (.int l5), none, none, none, none] [.long s0] h (e_is (e_rn c_J q)) := by
  unfold fX35_placeOf_b205 at hf
  refine w_lstore dX35_placeOf_205 (by decide) (ls' := [some (.ref l0), some (.int l1), none, none, none, some (.int l5), none, none, some (.long s0), none]) rfl ?_
  refine w_aload_n dX35_placeOf_207 rfl rfl ?_
  obtain ⟨x1, b2, hf⟩ := Option.bind_eq_some_iff.mp hf
  refine GX35_952 b2 dX35_placeOf_208 rfl ?_
  refine w_aload_n dX35_placeOf_211 rfl rfl ?_
  obtain ⟨a3, b4, hf⟩ := Option.bind_eq_some_iff.mp hf
  refine GX35_154 b4 dX35_placeOf_212 rfl ?_
  refine w_iload_n dX35_placeOf_215 rfl rfl ?_
  obtain ⟨x5, b6, hf⟩ := Option.bind_eq_some_iff.mp hf
  refine x_rZ b6 dX35_placeOf_216 ?_
  refine w_if_eq 243 dX35_placeOf_217 (by decide) (fun c7 => ?_) (fun c7 => ?_)
  · replace hf := (if_pos (show x5 = 0 from c7)).symm.trans hf
    exact (pX35_placeOf_b243 hd hf).to ⟨rfl, trivial⟩
  · replace hf := (if_neg (show ¬ (x5 = 0) from c7)).symm.trans hf
    refine w_aload_n dX35_placeOf_220 rfl rfl ?_
    obtain ⟨a8, b9, hf⟩ := Option.bind_eq_some_iff.mp hf
    refine GX35_185 b9 dX35_placeOf_221 rfl ?_
    refine w_bipush dX35_placeOf_224 (v := 6) (by decide) ?_
    refine w_iload dX35_placeOf_226 rfl ?_
    refine w_imul dX35_placeOf_228 ?_
    obtain ⟨x10, b11, hf⟩ := Option.bind_eq_some_iff.mp hf
    refine x_rI b11 dX35_placeOf_229 ?_
    refine x_cnI hf (e_stS (Yc := YX35_isSolid) (av := [.int x10]) (st := [.long x1]) dX35_placeOf_230 q5539 mX35_isSolid) mX35_isSolid.2.2.1 mX35_isSolid.2.2.2.2.1 (Nat.le_of_ble_eq_true rfl) (Nat.le_of_ble_eq_true rfl) (fun q hq => pX35_isSolid (by omega) hq) (fun q12 hf => ?_)
    refine w_if_eq 243 dX35_placeOf_233 (by decide) (fun c13 => ?_) (fun c13 => ?_)
    · replace hf := (if_pos (show q12.1 = 0 from c13)).symm.trans hf
      exact (pX35_placeOf_b243 hd hf).to ⟨rfl, trivial⟩
    · replace hf := (if_neg (show ¬ (q12.1 = 0) from c13)).symm.trans hf
      refine w_aload_n dX35_placeOf_236 rfl rfl ?_
      obtain ⟨x14, b15, hf⟩ := Option.bind_eq_some_iff.mp hf
      refine GX35_957 b15 dX35_placeOf_237 rfl ?_
      refine w_goto 244 dX35_placeOf_240 (by decide) ?_
      exact (pX35_placeOf_b244 hd hf).to ⟨rfl, trivial⟩
def fX35_placeOf_b176 (N : Nat) (l0 : Nat) (l1 : Int32) (l3 : Int64) (l5 : Int32) (s0 : Int64) (h : eH) : Option (Int64 × eH) :=
  (g_A 34 h l0 73).bind fun a1 =>
  (r_I 100 h a1 l1).bind fun x3 =>
  if ¬ x3 = 0 then
    (g_A 34 h l0 73).bind fun a6 =>
    (r_I 100 h a6 l1).bind fun x8 =>
    (fX35_nearest (l3 * s0) (x8).toInt64 h).bind fun q10 =>
    fX35_placeOf_b205 N l0 l1 l5 q10.1 q10.2
  else
    fX35_placeOf_b205 N l0 l1 l5 (0 : Int64) h
theorem pX35_placeOf_b176 {w : eW} {d : Nat} (hd : 4 ≤ d + 1) {N : Nat} {l0 : Nat} {l1 : Int32} {l3 : Int64} {l5 : Int32} {s0 : Int64} {h : eH} {q} (hf : fX35_placeOf_b176 N l0 l1 l3 l5 s0 h = some q) : wp w (d + 1) YX35_placeOf 176 [some (.ref l0), some (.int l1), none, some (.long l3), none, some (.int l5), none, none, none, none] [.long s0] h (e_is (e_rn c_J q)) := by
  unfold fX35_placeOf_b176 at hf
  refine w_lstore dX35_placeOf_176 (by decide) (ls' := [some (.ref l0), some (.int l1), none, some (.long l3), none, some (.int l5), some (.long s0), none, none, none]) rfl ?_
  refine w_aload_n dX35_placeOf_178 rfl rfl ?_
  obtain ⟨a1, b2, hf⟩ := Option.bind_eq_some_iff.mp hf
  refine GX35_172 b2 dX35_placeOf_179 rfl ?_
  refine w_iload_n dX35_placeOf_182 rfl rfl ?_
  obtain ⟨x3, b4, hf⟩ := Option.bind_eq_some_iff.mp hf
  refine x_rI b4 dX35_placeOf_183 ?_
  refine w_if_ne 191 dX35_placeOf_184 (by decide) (fun c5 => ?_) (fun c5 => ?_)
  · replace hf := (if_pos (show ¬ x3 = 0 from c5)).symm.trans hf
    refine w_lload_n dX35_placeOf_191 rfl rfl ?_
    refine w_lload dX35_placeOf_192 rfl ?_
    refine w_lmul dX35_placeOf_194 ?_
    refine w_aload_n dX35_placeOf_195 rfl rfl ?_
    obtain ⟨a6, b7, hf⟩ := Option.bind_eq_some_iff.mp hf
    refine GX35_172 b7 dX35_placeOf_196 rfl ?_
    refine w_iload_n dX35_placeOf_199 rfl rfl ?_
    obtain ⟨x8, b9, hf⟩ := Option.bind_eq_some_iff.mp hf
    refine x_rI b9 dX35_placeOf_200 ?_
    refine w_i2l dX35_placeOf_201 ?_
    refine x_cnJ hf (e_stS (Yc := YX35_nearest) (av := [.long (l3 * s0), .long (x8).toInt64]) (st := []) dX35_placeOf_202 q5571 mX35_nearest) mX35_nearest.2.2.1 mX35_nearest.2.2.2.2.1 (Nat.le_of_ble_eq_true rfl) (Nat.le_of_ble_eq_true rfl) (fun q hq => pX35_nearest (by omega) hq) (fun q10 hf => ?_)
    exact (pX35_placeOf_b205 hd hf).to ⟨rfl, rfl, rfl, trivial⟩
  · replace hf := (if_neg (show ¬ (¬ x3 = 0) from (fun z => z c5))).symm.trans hf
    refine w_lconst dX35_placeOf_187 (v := 0) (by decide) ?_
    refine w_goto 205 dX35_placeOf_188 (by decide) ?_
    exact (pX35_placeOf_b205 hd hf).to ⟨rfl, rfl, rfl, trivial⟩
def fX35_placeOf_b24 (N : Nat) : Nat → Nat → Int32 → Int64 → Int32 → Int32 → eH → Option (Int64 × eH)
  | 0, _, _, _, _, _, _ => none
  | n + 1, l0, l1, l3, l5, l6, h =>
    if l5 ≤ l6 then
      (g_A 34 h l0 74).bind fun a2 =>
      (r_I 100 h a2 l1).bind fun x4 =>
      if x4 ≤ 0 then
        (g_A 34 h l0 71).bind fun a7 =>
        (r_I 100 h a7 l1).bind fun x9 =>
        fX35_placeOf_b176 N l0 l1 l3 l5 (x9).toInt64 h
      else
        (g_A 34 h l0 73).bind fun a11 =>
        (r_I 100 h a11 l1).bind fun x13 =>
        fX35_placeOf_b176 N l0 l1 l3 l5 ((-x13)).toInt64 h
    else
      (g_A 34 h l0 77).bind fun a15 =>
      (g_A 34 h l0 67).bind fun a17 =>
      (r_I 103 h a17 l1).bind fun x19 =>
      (k_ok 34 h l0).bind fun _ =>
      (fX35_add l0 a15 ((6 : Int32) * l6) x19 h).bind fun q22 =>
      (g_A 34 q22.2 l0 77).bind fun a23 =>
      (r_I 100 q22.2 a23 ((6 : Int32) * l6)).bind fun x25 =>
      if ¬ x25 = (2 : Int32) then
        fX35_placeOf_b92 N (fX35_placeOf_b24 N n) l0 l1 l3 l5 l6 q22.2
      else
        (g_A 34 q22.2 l0 71).bind fun a28 =>
        (r_I 100 q22.2 a28 l1).bind fun x30 =>
        if 0 ≤ x30 then
          fX35_placeOf_b92 N (fX35_placeOf_b24 N n) l0 l1 l3 l5 l6 q22.2
        else
          (g_A 34 q22.2 l0 77).bind fun a33 =>
          (r_I 100 q22.2 a33 (((6 : Int32) * l6) + (4 : Int32))).bind fun x35 =>
          fX35_placeOf_b143 N (fX35_placeOf_b24 N n) l0 l1 (l3 + (x35).toInt64) l5 l6 q22.2
theorem pX35_placeOf_b24 {w : eW} {d : Nat} (hd : 4 ≤ d + 1) {N : Nat} : ∀ (n : Nat) l0 l1 l3 l5 l6 h q, fX35_placeOf_b24 N n l0 l1 l3 l5 l6 h = some q → wp w (d + 1) YX35_placeOf 24 [some (.ref l0), some (.int l1), none, some (.long l3), none, some (.int l5), some (.int l6), none, none, none] [] h (e_is (e_rn c_J q)) := by
  intro n
  induction n with
  | zero => intro l0 l1 l3 l5 l6 h q hf; simp [fX35_placeOf_b24] at hf
  | succ n ih =>
    intro l0 l1 l3 l5 l6 h q hf
    rw [fX35_placeOf_b24] at hf
    refine w_iload dX35_placeOf_24 rfl ?_
    refine w_iload dX35_placeOf_26 rfl ?_
    refine w_icmp_ge 149 dX35_placeOf_28 (by decide) (fun c1 => ?_) (fun c1 => ?_)
    · replace hf := (if_pos (show l5 ≤ l6 from c1)).symm.trans hf
      refine w_aload_n dX35_placeOf_149 rfl rfl ?_
      obtain ⟨a2, b3, hf⟩ := Option.bind_eq_some_iff.mp hf
      refine GX35_175 b3 dX35_placeOf_150 rfl ?_
      refine w_iload_n dX35_placeOf_153 rfl rfl ?_
      obtain ⟨x4, b5, hf⟩ := Option.bind_eq_some_iff.mp hf
      refine x_rI b5 dX35_placeOf_154 ?_
      refine w_if_le 169 dX35_placeOf_155 (by decide) (fun c6 => ?_) (fun c6 => ?_)
      · replace hf := (if_pos (show x4 ≤ 0 from c6)).symm.trans hf
        refine w_aload_n dX35_placeOf_169 rfl rfl ?_
        obtain ⟨a7, b8, hf⟩ := Option.bind_eq_some_iff.mp hf
        refine GX35_166 b8 dX35_placeOf_170 rfl ?_
        refine w_iload_n dX35_placeOf_173 rfl rfl ?_
        obtain ⟨x9, b10, hf⟩ := Option.bind_eq_some_iff.mp hf
        refine x_rI b10 dX35_placeOf_174 ?_
        refine w_i2l dX35_placeOf_175 ?_
        exact (pX35_placeOf_b176 hd hf).to ⟨rfl, rfl, rfl, rfl, trivial⟩
      · replace hf := (if_neg (show ¬ (x4 ≤ 0) from c6)).symm.trans hf
        refine w_aload_n dX35_placeOf_158 rfl rfl ?_
        obtain ⟨a11, b12, hf⟩ := Option.bind_eq_some_iff.mp hf
        refine GX35_172 b12 dX35_placeOf_159 rfl ?_
        refine w_iload_n dX35_placeOf_162 rfl rfl ?_
        obtain ⟨x13, b14, hf⟩ := Option.bind_eq_some_iff.mp hf
        refine x_rI b14 dX35_placeOf_163 ?_
        refine w_ineg dX35_placeOf_164 ?_
        refine w_i2l dX35_placeOf_165 ?_
        refine w_goto 176 dX35_placeOf_166 (by decide) ?_
        exact (pX35_placeOf_b176 hd hf).to ⟨rfl, rfl, rfl, rfl, trivial⟩
    · replace hf := (if_neg (show ¬ (l5 ≤ l6) from c1)).symm.trans hf
      refine w_aload_n dX35_placeOf_31 rfl rfl ?_
      refine w_aload_n dX35_placeOf_32 rfl rfl ?_
      obtain ⟨a15, b16, hf⟩ := Option.bind_eq_some_iff.mp hf
      refine GX35_185 b16 dX35_placeOf_33 rfl ?_
      refine w_bipush dX35_placeOf_36 (v := 6) (by decide) ?_
      refine w_iload dX35_placeOf_38 rfl ?_
      refine w_imul dX35_placeOf_40 ?_
      refine w_aload_n dX35_placeOf_41 rfl rfl ?_
      obtain ⟨a17, b18, hf⟩ := Option.bind_eq_some_iff.mp hf
      refine GX35_154 b18 dX35_placeOf_42 rfl ?_
      refine w_iload_n dX35_placeOf_45 rfl rfl ?_
      obtain ⟨x19, b20, hf⟩ := Option.bind_eq_some_iff.mp hf
      refine x_rZ b20 dX35_placeOf_46 ?_
      obtain ⟨_, b21, hf⟩ := Option.bind_eq_some_iff.mp hf
      refine x_cnV hf (e_stV (Yc := YX35_add) (ci := 34) (av := [.ref a15, .int ((6 : Int32) * l6), .int x19]) (st := []) dX35_placeOf_47 q5546 mX35_add rfl (k_ok_some b21).1 (k_ok_some b21).2) mX35_add.2.2.1 mX35_add.2.2.2.2.1 (Nat.le_of_ble_eq_true rfl) (Nat.le_of_ble_eq_true rfl) (fun q hq => pX35_add (by omega) hq) (fun q22 hf => ?_)
      refine w_aload_n dX35_placeOf_50 rfl rfl ?_
      obtain ⟨a23, b24, hf⟩ := Option.bind_eq_some_iff.mp hf
      refine GX35_185 b24 dX35_placeOf_51 rfl ?_
      refine w_bipush dX35_placeOf_54 (v := 6) (by decide) ?_
      refine w_iload dX35_placeOf_56 rfl ?_
      refine w_imul dX35_placeOf_58 ?_
      obtain ⟨x25, b26, hf⟩ := Option.bind_eq_some_iff.mp hf
      refine x_rI b26 dX35_placeOf_59 ?_
      refine w_iconst dX35_placeOf_60 (v := 2) (by decide) ?_
      refine w_icmp_ne 92 dX35_placeOf_61 (by decide) (fun c27 => ?_) (fun c27 => ?_)
      · replace hf := (if_pos (show ¬ x25 = (2 : Int32) from c27)).symm.trans hf
        exact (pX35_placeOf_b92 hd ih hf).to ⟨rfl, rfl, rfl, rfl, rfl, trivial⟩
      · replace hf := (if_neg (show ¬ (¬ x25 = (2 : Int32)) from (fun z => z c27))).symm.trans hf
        refine w_aload_n dX35_placeOf_64 rfl rfl ?_
        obtain ⟨a28, b29, hf⟩ := Option.bind_eq_some_iff.mp hf
        refine GX35_166 b29 dX35_placeOf_65 rfl ?_
        refine w_iload_n dX35_placeOf_68 rfl rfl ?_
        obtain ⟨x30, b31, hf⟩ := Option.bind_eq_some_iff.mp hf
        refine x_rI b31 dX35_placeOf_69 ?_
        refine w_if_ge 92 dX35_placeOf_70 (by decide) (fun c32 => ?_) (fun c32 => ?_)
        · replace hf := (if_pos (show 0 ≤ x30 from c32)).symm.trans hf
          exact (pX35_placeOf_b92 hd ih hf).to ⟨rfl, rfl, rfl, rfl, rfl, trivial⟩
        · replace hf := (if_neg (show ¬ (0 ≤ x30) from c32)).symm.trans hf
          refine w_lload_n dX35_placeOf_73 rfl rfl ?_
          refine w_aload_n dX35_placeOf_74 rfl rfl ?_
          obtain ⟨a33, b34, hf⟩ := Option.bind_eq_some_iff.mp hf
          refine GX35_185 b34 dX35_placeOf_75 rfl ?_
          refine w_bipush dX35_placeOf_78 (v := 6) (by decide) ?_
          refine w_iload dX35_placeOf_80 rfl ?_
          refine w_imul dX35_placeOf_82 ?_
          refine w_iconst dX35_placeOf_83 (v := 4) (by decide) ?_
          refine w_iadd dX35_placeOf_84 ?_
          obtain ⟨x35, b36, hf⟩ := Option.bind_eq_some_iff.mp hf
          refine x_rI b36 dX35_placeOf_85 ?_
          refine w_i2l dX35_placeOf_86 ?_
          refine w_ladd dX35_placeOf_87 ?_
          refine w_lstore_n dX35_placeOf_88 rfl (by decide) (ls' := [some (.ref l0), some (.int l1), none, some (.long (l3 + (x35).toInt64)), none, some (.int l5), some (.int l6), none, none, none]) rfl ?_
          refine w_goto 143 dX35_placeOf_89 (by decide) ?_
          exact (pX35_placeOf_b143 hd ih hf).to ⟨rfl, rfl, rfl, rfl, rfl, trivial⟩
def fX35_placeOf (N : Nat) (this : Nat) (p0 : Int32) (p1 : Int32) (h : eH) : Option (Int64 × eH) :=
  (k_ok 34 h this).bind fun _ =>
  (fX35_nothing N this h).bind fun q2 =>
  (g_A 34 q2.2 this 66).bind fun a3 =>
  (r_I 100 q2.2 a3 p0).bind fun x5 =>
  (g_A 34 q2.2 this 66).bind fun a7 =>
  (r_I 100 q2.2 a7 p0).bind fun x9 =>
  fX35_placeOf_b24 N N this p0 (0 : Int64) (x5 + p1) x9 q2.2
theorem pX35_placeOf {w : eW} {d : Nat} (hd : 4 ≤ d) {N : Nat} {this : Nat} {p0 : Int32} {p1 : Int32} {h : eH} {q} (hf : fX35_placeOf N this p0 p1 h = some q) : wm w d YX35_placeOf [.ref this, .int p0, .int p1] h (e_is (e_rn c_J q)) := by
  obtain ⟨d, rfl⟩ : ∃ e, d = e + 1 := ⟨d - 1, by omega⟩
  show wp w (d + 1) YX35_placeOf 0 [some (.ref this), some (.int p0), some (.int p1), none, none, none, none, none, none, none] [] h _
  unfold fX35_placeOf at hf
  refine w_aload_n dX35_placeOf_0 rfl rfl ?_
  obtain ⟨_, b1, hf⟩ := Option.bind_eq_some_iff.mp hf
  refine x_cnV hf (e_stV (Yc := YX35_nothing) (ci := 34) (av := []) (st := []) dX35_placeOf_1 q5485 mX35_nothing rfl (k_ok_some b1).1 (k_ok_some b1).2) mX35_nothing.2.2.1 mX35_nothing.2.2.2.2.1 (Nat.le_of_ble_eq_true rfl) (Nat.le_of_ble_eq_true rfl) (fun q hq => pX35_nothing (by omega) hq) (fun q2 hf => ?_)
  refine w_lconst dX35_placeOf_4 (v := 0) (by decide) ?_
  refine w_lstore_n dX35_placeOf_5 rfl (by decide) (ls' := [some (.ref this), some (.int p0), some (.int p1), some (.long (0 : Int64)), none, none, none, none, none, none]) rfl ?_
  refine w_aload_n dX35_placeOf_6 rfl rfl ?_
  obtain ⟨a3, b4, hf⟩ := Option.bind_eq_some_iff.mp hf
  refine GX35_151 b4 dX35_placeOf_7 rfl ?_
  refine w_iload_n dX35_placeOf_10 rfl rfl ?_
  obtain ⟨x5, b6, hf⟩ := Option.bind_eq_some_iff.mp hf
  refine x_rI b6 dX35_placeOf_11 ?_
  refine w_iload_n dX35_placeOf_12 rfl rfl ?_
  refine w_iadd dX35_placeOf_13 ?_
  refine w_istore dX35_placeOf_14 (by decide) (ls' := [some (.ref this), some (.int p0), some (.int p1), some (.long (0 : Int64)), none, some (.int (x5 + p1)), none, none, none, none]) rfl ?_
  refine w_aload_n dX35_placeOf_16 rfl rfl ?_
  obtain ⟨a7, b8, hf⟩ := Option.bind_eq_some_iff.mp hf
  refine GX35_151 b8 dX35_placeOf_17 rfl ?_
  refine w_iload_n dX35_placeOf_20 rfl rfl ?_
  obtain ⟨x9, b10, hf⟩ := Option.bind_eq_some_iff.mp hf
  refine x_rI b10 dX35_placeOf_21 ?_
  refine w_istore dX35_placeOf_22 (by decide) (ls' := [some (.ref this), some (.int p0), some (.int p1), some (.long (0 : Int64)), none, some (.int (x5 + p1)), some (.int x9), none, none, none]) rfl ?_
  exact (pX35_placeOf_b24 hd N _ _ _ _ _ _ _ hf).to ⟨rfl, rfl, rfl, rfl, rfl, trivial⟩
abbrev cX35_ruled : ByteArray := prog_37_method_144_code
def yX35_ruled : MethodName := ⟨RX35, "ruled", "(III)J"⟩
def YX35_ruled : eY := (yX35_ruled, cX35_ruled, 4, (Option.some FieldType.long), [])
theorem mX35_ruled : e_mv YX35_ruled RX35 3 := ⟨q5580, qs336, q5581, by decide, by decide +kernel, (e_sig (by decide +kernel))⟩
theorem dX35_ruled_0 : decode cX35_ruled 0 = .ok (.aload_n 0, 1) := dc_42 (by decide +kernel)
theorem dX35_ruled_1 : decode cX35_ruled 1 = .ok (.getfield 185, 3) := dc_180 (a := 0) (b := 185) (n := 185) (by decide +kernel)
theorem dX35_ruled_4 : decode cX35_ruled 4 = .ok (.iload_n 2, 1) := dc_28 (by decide +kernel)
theorem dX35_ruled_5 : decode cX35_ruled 5 = .ok (.iconst 1, 1) := dc_4 (by decide +kernel)
theorem dX35_ruled_6 : decode cX35_ruled 6 = .ok (.iadd, 1) := dc_96 (by decide +kernel)
theorem dX35_ruled_7 : decode cX35_ruled 7 = .ok (.iload_n 3, 1) := dc_29 (by decide +kernel)
theorem dX35_ruled_8 : decode cX35_ruled 8 = .ok (.iadd, 1) := dc_96 (by decide +kernel)
theorem dX35_ruled_9 : decode cX35_ruled 9 = .ok (.iaload, 1) := dc_46 (by decide +kernel)
theorem dX35_ruled_10 : decode cX35_ruled 10 = .ok (.ldc_w 816, 3) := dc_19 (a := 3) (b := 48) (n := 816) (by decide +kernel)
theorem dX35_ruled_13 : decode cX35_ruled 13 = .ok (.if_icmp .eq 15, 3) := dc_159 (a := 0) (b := 15) (v := 15) (by decide +kernel)
theorem dX35_ruled_16 : decode cX35_ruled 16 = .ok (.aload_n 0, 1) := dc_42 (by decide +kernel)
theorem dX35_ruled_17 : decode cX35_ruled 17 = .ok (.getfield 185, 3) := dc_180 (a := 0) (b := 185) (n := 185) (by decide +kernel)
theorem dX35_ruled_20 : decode cX35_ruled 20 = .ok (.iload_n 2, 1) := dc_28 (by decide +kernel)
theorem dX35_ruled_21 : decode cX35_ruled 21 = .ok (.iconst 1, 1) := dc_4 (by decide +kernel)
theorem dX35_ruled_22 : decode cX35_ruled 22 = .ok (.iadd, 1) := dc_96 (by decide +kernel)
theorem dX35_ruled_23 : decode cX35_ruled 23 = .ok (.iload_n 3, 1) := dc_29 (by decide +kernel)
theorem dX35_ruled_24 : decode cX35_ruled 24 = .ok (.iadd, 1) := dc_96 (by decide +kernel)
theorem dX35_ruled_25 : decode cX35_ruled 25 = .ok (.iaload, 1) := dc_46 (by decide +kernel)
theorem dX35_ruled_26 : decode cX35_ruled 26 = .ok (.i2l, 1) := dc_133 (by decide +kernel)
theorem dX35_ruled_27 : decode cX35_ruled 27 = .ok (.lreturn, 1) := dc_173 (by decide +kernel)
theorem dX35_ruled_28 : decode cX35_ruled 28 = .ok (.aload_n 0, 1) := dc_42 (by decide +kernel)
theorem dX35_ruled_29 : decode cX35_ruled 29 = .ok (.getfield 154, 3) := dc_180 (a := 0) (b := 154) (n := 154) (by decide +kernel)
theorem dX35_ruled_32 : decode cX35_ruled 32 = .ok (.iload_n 1, 1) := dc_27 (by decide +kernel)
theorem dX35_ruled_33 : decode cX35_ruled 33 = .ok (.baload, 1) := dc_51 (by decide +kernel)
theorem dX35_ruled_34 : decode cX35_ruled 34 = .ok (.ifCond .eq 19, 3) := dc_153 (a := 0) (b := 19) (v := 19) (by decide +kernel)
theorem dX35_ruled_37 : decode cX35_ruled 37 = .ok (.iload_n 3, 1) := dc_29 (by decide +kernel)
theorem dX35_ruled_38 : decode cX35_ruled 38 = .ok (.ifCond .ne 13, 3) := dc_154 (a := 0) (b := 13) (v := 13) (by decide +kernel)
theorem dX35_ruled_41 : decode cX35_ruled 41 = .ok (.aload_n 0, 1) := dc_42 (by decide +kernel)
theorem dX35_ruled_42 : decode cX35_ruled 42 = .ok (.getfield 157, 3) := dc_180 (a := 0) (b := 157) (n := 157) (by decide +kernel)
theorem dX35_ruled_45 : decode cX35_ruled 45 = .ok (.iload_n 1, 1) := dc_27 (by decide +kernel)
theorem dX35_ruled_46 : decode cX35_ruled 46 = .ok (.iaload, 1) := dc_46 (by decide +kernel)
theorem dX35_ruled_47 : decode cX35_ruled 47 = .ok (.i2l, 1) := dc_133 (by decide +kernel)
theorem dX35_ruled_48 : decode cX35_ruled 48 = .ok (.goto 4, 3) := dc_167 (a := 0) (b := 4) (v := 4) (by decide +kernel)
theorem dX35_ruled_51 : decode cX35_ruled 51 = .ok (.lconst 0, 1) := dc_9 (by decide +kernel)
theorem dX35_ruled_52 : decode cX35_ruled 52 = .ok (.lreturn, 1) := dc_173 (by decide +kernel)
theorem dX35_ruled_53 : decode cX35_ruled 53 = .ok (.iload_n 3, 1) := dc_29 (by decide +kernel)
theorem dX35_ruled_54 : decode cX35_ruled 54 = .ok (.iconst 1, 1) := dc_4 (by decide +kernel)
theorem dX35_ruled_55 : decode cX35_ruled 55 = .ok (.if_icmp .ne 13, 3) := dc_160 (a := 0) (b := 13) (v := 13) (by decide +kernel)
theorem dX35_ruled_58 : decode cX35_ruled 58 = .ok (.aload_n 0, 1) := dc_42 (by decide +kernel)
theorem dX35_ruled_59 : decode cX35_ruled 59 = .ok (.getfield 160, 3) := dc_180 (a := 0) (b := 160) (n := 160) (by decide +kernel)
theorem dX35_ruled_62 : decode cX35_ruled 62 = .ok (.iload_n 1, 1) := dc_27 (by decide +kernel)
theorem dX35_ruled_63 : decode cX35_ruled 63 = .ok (.iaload, 1) := dc_46 (by decide +kernel)
theorem dX35_ruled_64 : decode cX35_ruled 64 = .ok (.i2l, 1) := dc_133 (by decide +kernel)
theorem dX35_ruled_65 : decode cX35_ruled 65 = .ok (.goto 19, 3) := dc_167 (a := 0) (b := 19) (v := 19) (by decide +kernel)
theorem dX35_ruled_68 : decode cX35_ruled 68 = .ok (.iload_n 3, 1) := dc_29 (by decide +kernel)
theorem dX35_ruled_69 : decode cX35_ruled 69 = .ok (.iconst 2, 1) := dc_5 (by decide +kernel)
theorem dX35_ruled_70 : decode cX35_ruled 70 = .ok (.if_icmp .ne 13, 3) := dc_160 (a := 0) (b := 13) (v := 13) (by decide +kernel)
theorem dX35_ruled_73 : decode cX35_ruled 73 = .ok (.aload_n 0, 1) := dc_42 (by decide +kernel)
theorem dX35_ruled_74 : decode cX35_ruled 74 = .ok (.getfield 163, 3) := dc_180 (a := 0) (b := 163) (n := 163) (by decide +kernel)
theorem dX35_ruled_77 : decode cX35_ruled 77 = .ok (.iload_n 1, 1) := dc_27 (by decide +kernel)
theorem dX35_ruled_78 : decode cX35_ruled 78 = .ok (.iaload, 1) := dc_46 (by decide +kernel)
theorem dX35_ruled_79 : decode cX35_ruled 79 = .ok (.i2l, 1) := dc_133 (by decide +kernel)
theorem dX35_ruled_80 : decode cX35_ruled 80 = .ok (.goto 4, 3) := dc_167 (a := 0) (b := 4) (v := 4) (by decide +kernel)
theorem dX35_ruled_83 : decode cX35_ruled 83 = .ok (.lconst 0, 1) := dc_9 (by decide +kernel)
theorem dX35_ruled_84 : decode cX35_ruled 84 = .ok (.lreturn, 1) := dc_173 (by decide +kernel)
def fX35_ruled_b52 (s0 : Int64) (h : eH) : Option (Int64 × eH) :=
  some (s0, h)
theorem pX35_ruled_b52 {w : eW} {d : Nat} (hd : 0 ≤ d) {s0 : Int64} {h : eH} {q} (hf : fX35_ruled_b52 s0 h = some q) : wp w d YX35_ruled 52 [none, none, none, none] [.long s0] h (e_is (e_rn c_J q)) := by
  unfold fX35_ruled_b52 at hf
  cases hf
  exact w_lret dX35_ruled_52 rfl rfl
def fX35_ruled_b84 (s0 : Int64) (h : eH) : Option (Int64 × eH) :=
  some (s0, h)
theorem pX35_ruled_b84 {w : eW} {d : Nat} (hd : 0 ≤ d) {s0 : Int64} {h : eH} {q} (hf : fX35_ruled_b84 s0 h = some q) : wp w d YX35_ruled 84 [none, none, none, none] [.long s0] h (e_is (e_rn c_J q)) := by
  unfold fX35_ruled_b84 at hf
  cases hf
  exact w_lret dX35_ruled_84 rfl rfl
def fX35_ruled (this : Nat) (p0 : Int32) (p1 : Int32) (p2 : Int32) (h : eH) : Option (Int64 × eH) :=
  (g_A 34 h this 77).bind fun a1 =>
  (r_I 100 h a1 ((p1 + (1 : Int32)) + p2)).bind fun x3 =>
  if x3 = (-1073741824 : Int32) then
    (g_A 34 h this 67).bind fun a6 =>
    (r_I 103 h a6 p0).bind fun x8 =>
    if x8 = 0 then
      if ¬ p2 = (1 : Int32) then
        if ¬ p2 = (2 : Int32) then
          fX35_ruled_b84 (0 : Int64) h
        else
          (g_A 34 h this 70).bind fun a13 =>
          (r_I 100 h a13 p0).bind fun x15 =>
          fX35_ruled_b84 (x15).toInt64 h
      else
        (g_A 34 h this 69).bind fun a17 =>
        (r_I 100 h a17 p0).bind fun x19 =>
        fX35_ruled_b84 (x19).toInt64 h
    else
      if ¬ p2 = 0 then
        fX35_ruled_b52 (0 : Int64) h
      else
        (g_A 34 h this 68).bind fun a22 =>
        (r_I 100 h a22 p0).bind fun x24 =>
        fX35_ruled_b52 (x24).toInt64 h
  else
    (g_A 34 h this 77).bind fun a26 =>
    (r_I 100 h a26 ((p1 + (1 : Int32)) + p2)).bind fun x28 =>
    some ((x28).toInt64, h)
theorem pX35_ruled {w : eW} {d : Nat} (hd : 0 ≤ d) {this : Nat} {p0 : Int32} {p1 : Int32} {p2 : Int32} {h : eH} {q} (hf : fX35_ruled this p0 p1 p2 h = some q) : wm w d YX35_ruled [.ref this, .int p0, .int p1, .int p2] h (e_is (e_rn c_J q)) := by
  show wp w d YX35_ruled 0 [some (.ref this), some (.int p0), some (.int p1), some (.int p2)] [] h _
  unfold fX35_ruled at hf
  refine w_aload_n dX35_ruled_0 rfl rfl ?_
  obtain ⟨a1, b2, hf⟩ := Option.bind_eq_some_iff.mp hf
  refine GX35_185 b2 dX35_ruled_1 rfl ?_
  refine w_iload_n dX35_ruled_4 rfl rfl ?_
  refine w_iconst dX35_ruled_5 (v := 1) (by decide) ?_
  refine w_iadd dX35_ruled_6 ?_
  refine w_iload_n dX35_ruled_7 rfl rfl ?_
  refine w_iadd dX35_ruled_8 ?_
  obtain ⟨x3, b4, hf⟩ := Option.bind_eq_some_iff.mp hf
  refine x_rI b4 dX35_ruled_9 ?_
  refine w_ldc_w dX35_ruled_10 q5562 ?_
  refine w_icmp_eq 28 dX35_ruled_13 (by decide) (fun c5 => ?_) (fun c5 => ?_)
  · replace hf := (if_pos (show x3 = (-1073741824 : Int32) from c5)).symm.trans hf
    refine w_aload_n dX35_ruled_28 rfl rfl ?_
    obtain ⟨a6, b7, hf⟩ := Option.bind_eq_some_iff.mp hf
    refine GX35_154 b7 dX35_ruled_29 rfl ?_
    refine w_iload_n dX35_ruled_32 rfl rfl ?_
    obtain ⟨x8, b9, hf⟩ := Option.bind_eq_some_iff.mp hf
    refine x_rZ b9 dX35_ruled_33 ?_
    refine w_if_eq 53 dX35_ruled_34 (by decide) (fun c10 => ?_) (fun c10 => ?_)
    · replace hf := (if_pos (show x8 = 0 from c10)).symm.trans hf
      refine w_iload_n dX35_ruled_53 rfl rfl ?_
      refine w_iconst dX35_ruled_54 (v := 1) (by decide) ?_
      refine w_icmp_ne 68 dX35_ruled_55 (by decide) (fun c11 => ?_) (fun c11 => ?_)
      · replace hf := (if_pos (show ¬ p2 = (1 : Int32) from c11)).symm.trans hf
        refine w_iload_n dX35_ruled_68 rfl rfl ?_
        refine w_iconst dX35_ruled_69 (v := 2) (by decide) ?_
        refine w_icmp_ne 83 dX35_ruled_70 (by decide) (fun c12 => ?_) (fun c12 => ?_)
        · replace hf := (if_pos (show ¬ p2 = (2 : Int32) from c12)).symm.trans hf
          refine w_lconst dX35_ruled_83 (v := 0) (by decide) ?_
          exact (pX35_ruled_b84 hd hf).to trivial
        · replace hf := (if_neg (show ¬ (¬ p2 = (2 : Int32)) from (fun z => z c12))).symm.trans hf
          refine w_aload_n dX35_ruled_73 rfl rfl ?_
          obtain ⟨a13, b14, hf⟩ := Option.bind_eq_some_iff.mp hf
          refine GX35_163 b14 dX35_ruled_74 rfl ?_
          refine w_iload_n dX35_ruled_77 rfl rfl ?_
          obtain ⟨x15, b16, hf⟩ := Option.bind_eq_some_iff.mp hf
          refine x_rI b16 dX35_ruled_78 ?_
          refine w_i2l dX35_ruled_79 ?_
          refine w_goto 84 dX35_ruled_80 (by decide) ?_
          exact (pX35_ruled_b84 hd hf).to trivial
      · replace hf := (if_neg (show ¬ (¬ p2 = (1 : Int32)) from (fun z => z c11))).symm.trans hf
        refine w_aload_n dX35_ruled_58 rfl rfl ?_
        obtain ⟨a17, b18, hf⟩ := Option.bind_eq_some_iff.mp hf
        refine GX35_160 b18 dX35_ruled_59 rfl ?_
        refine w_iload_n dX35_ruled_62 rfl rfl ?_
        obtain ⟨x19, b20, hf⟩ := Option.bind_eq_some_iff.mp hf
        refine x_rI b20 dX35_ruled_63 ?_
        refine w_i2l dX35_ruled_64 ?_
        refine w_goto 84 dX35_ruled_65 (by decide) ?_
        exact (pX35_ruled_b84 hd hf).to trivial
    · replace hf := (if_neg (show ¬ (x8 = 0) from c10)).symm.trans hf
      refine w_iload_n dX35_ruled_37 rfl rfl ?_
      refine w_if_ne 51 dX35_ruled_38 (by decide) (fun c21 => ?_) (fun c21 => ?_)
      · replace hf := (if_pos (show ¬ p2 = 0 from c21)).symm.trans hf
        refine w_lconst dX35_ruled_51 (v := 0) (by decide) ?_
        exact (pX35_ruled_b52 hd hf).to trivial
      · replace hf := (if_neg (show ¬ (¬ p2 = 0) from (fun z => z c21))).symm.trans hf
        refine w_aload_n dX35_ruled_41 rfl rfl ?_
        obtain ⟨a22, b23, hf⟩ := Option.bind_eq_some_iff.mp hf
        refine GX35_157 b23 dX35_ruled_42 rfl ?_
        refine w_iload_n dX35_ruled_45 rfl rfl ?_
        obtain ⟨x24, b25, hf⟩ := Option.bind_eq_some_iff.mp hf
        refine x_rI b25 dX35_ruled_46 ?_
        refine w_i2l dX35_ruled_47 ?_
        refine w_goto 52 dX35_ruled_48 (by decide) ?_
        exact (pX35_ruled_b52 hd hf).to trivial
  · replace hf := (if_neg (show ¬ (x3 = (-1073741824 : Int32)) from c5)).symm.trans hf
    refine w_aload_n dX35_ruled_16 rfl rfl ?_
    obtain ⟨a26, b27, hf⟩ := Option.bind_eq_some_iff.mp hf
    refine GX35_185 b27 dX35_ruled_17 rfl ?_
    refine w_iload_n dX35_ruled_20 rfl rfl ?_
    refine w_iconst dX35_ruled_21 (v := 1) (by decide) ?_
    refine w_iadd dX35_ruled_22 ?_
    refine w_iload_n dX35_ruled_23 rfl rfl ?_
    refine w_iadd dX35_ruled_24 ?_
    obtain ⟨x28, b29, hf⟩ := Option.bind_eq_some_iff.mp hf
    refine x_rI b29 dX35_ruled_25 ?_
    refine w_i2l dX35_ruled_26 ?_
    cases hf
    exact w_lret dX35_ruled_27 rfl rfl
def fX35_layBox_b401 (N : Nat) (sL : Nat → Int32 → Int64 → Int64 → eH → Option (Int32 × eH)) (k11 : Nat → Int32 → Int64 → Int64 → Int32 → Int32 → eH → Option (Int32 × eH)) (l0 : Nat) (l1 : Int32) (l2 : Int64) (l4 : Int64) (l6 : Int32) (l7 : Int32) (h : eH) : Option (Int32 × eH) :=
  k11 l0 l1 l2 l4 l6 (l7 + (1 : Int32)) h
theorem pX35_layBox_b401 {w : eW} {d : Nat} {dr : Nat} (hd : dr + 5 ≤ d + 1) (hdr : 12 ≤ dr) {N : Nat} {sL : Nat → Int32 → Int64 → Int64 → eH → Option (Int32 × eH)} (hsL : ∀ a t0 t1 t2 h q, sL a t0 t1 t2 h = some q → wm w dr YX35_layBox [.ref a, .int t0, .long t1, .long t2] h (e_is (e_rn c_I q))) {k11 : Nat → Int32 → Int64 → Int64 → Int32 → Int32 → eH → Option (Int32 × eH)} (hk11 : ∀ l0 l1 l2 l4 l6 l7 h q, k11 l0 l1 l2 l4 l6 l7 h = some q → wp w (d + 1) YX35_layBox 11 [some (.ref l0), some (.int l1), some (.long l2), none, some (.long l4), none, some (.int l6), some (.int l7), none, none, none, none, none, none, none, none, none, none, none, none, none] [] h (e_is (e_rn c_I q))) {l0 : Nat} {l1 : Int32} {l2 : Int64} {l4 : Int64} {l6 : Int32} {l7 : Int32} {h : eH} {q} (hf : fX35_layBox_b401 N sL k11 l0 l1 l2 l4 l6 l7 h = some q) : wp w (d + 1) YX35_layBox 401 [some (.ref l0), some (.int l1), some (.long l2), none, some (.long l4), none, some (.int l6), some (.int l7), none, none, none, none, none, none, none, none, none, none, none, none, none] [] h (e_is (e_rn c_I q)) := by
  unfold fX35_layBox_b401 at hf
  refine w_iinc dX35_layBox_401 (v := (l7 + (1 : Int32))) rfl rfl (by decide) (ls' := [some (.ref l0), some (.int l1), some (.long l2), none, some (.long l4), none, some (.int l6), some (.int (l7 + (1 : Int32))), none, none, none, none, none, none, none, none, none, none, none, none, none]) rfl ?_
  refine w_goto 11 dX35_layBox_404 (by decide) ?_
  exact (hk11 _ _ _ _ _ _ _ _ hf).to ⟨rfl, rfl, rfl, rfl, rfl, rfl, trivial⟩
def fX35_layBox_b175 (N : Nat) (sL : Nat → Int32 → Int64 → Int64 → eH → Option (Int32 × eH)) (k11 : Nat → Int32 → Int64 → Int64 → Int32 → Int32 → eH → Option (Int32 × eH)) (l0 : Nat) (l1 : Int32) (l2 : Int64) (l4 : Int64) (l7 : Int32) (l8 : Int32) (s0 : Nat) (s1 : Int32) (s2 : Int32) (s3 : Int64) (s4 : Int64) (h : eH) : Option (Int32 × eH) :=
  (g_A 34 h l0 77).bind fun a1 =>
  (r_I 100 h a1 (l8 + (3 : Int32))).bind fun x3 =>
  (g_A 34 h l0 77).bind fun a5 =>
  (r_I 100 h a5 (l8 + (4 : Int32))).bind fun x7 =>
  (g_A 34 h l0 77).bind fun a9 =>
  (r_I 100 h a9 (l8 + (5 : Int32))).bind fun x11 =>
  (k_ok 34 h s0).bind fun _ =>
  (fX35_note s0 s1 s2 s3 s4 (x3).toInt64 (x7).toInt64 (x11).toInt64 h).bind fun q14 =>
  fX35_layBox_b401 N sL k11 l0 l1 l2 l4 q14.1 l7 q14.2
theorem pX35_layBox_b175 {w : eW} {d : Nat} {dr : Nat} (hd : dr + 5 ≤ d + 1) (hdr : 12 ≤ dr) {N : Nat} {sL : Nat → Int32 → Int64 → Int64 → eH → Option (Int32 × eH)} (hsL : ∀ a t0 t1 t2 h q, sL a t0 t1 t2 h = some q → wm w dr YX35_layBox [.ref a, .int t0, .long t1, .long t2] h (e_is (e_rn c_I q))) {k11 : Nat → Int32 → Int64 → Int64 → Int32 → Int32 → eH → Option (Int32 × eH)} (hk11 : ∀ l0 l1 l2 l4 l6 l7 h q, k11 l0 l1 l2 l4 l6 l7 h = some q → wp w (d + 1) YX35_layBox 11 [some (.ref l0), some (.int l1), some (.long l2), none, some (.long l4), none, some (.int l6), some (.int l7), none, none, none, none, none, none, none, none, none, none, none, none, none] [] h (e_is (e_rn c_I q))) {l0 : Nat} {l1 : Int32} {l2 : Int64} {l4 : Int64} {l7 : Int32} {l8 : Int32} {s0 : Nat} {s1 : Int32} {s2 : Int32} {s3 : Int64} {s4 : Int64} {h : eH} {q} (hf : fX35_layBox_b175 N sL k11 l0 l1 l2 l4 l7 l8 s0 s1 s2 s3 s4 h = some q) : wp w (d + 1) YX35_layBox 175 [some (.ref l0), some (.int l1), some (.long l2), none, some (.long l4), none, none, some (.int l7), some (.int l8), none, none, none, none, none, none, none, none, none, none, none, none] [.long s4, .long s3, .int s2, .int s1, .ref s0] h (e_is (e_rn c_I q)) := by
  unfold fX35_layBox_b175 at hf
  refine w_aload_n dX35_layBox_175 rfl rfl ?_
  obtain ⟨a1, b2, hf⟩ := Option.bind_eq_some_iff.mp hf
  refine GX35_185 b2 dX35_layBox_176 rfl ?_
  refine w_iload dX35_layBox_179 rfl ?_
  refine w_iconst dX35_layBox_181 (v := 3) (by decide) ?_
  refine w_iadd dX35_layBox_182 ?_
  obtain ⟨x3, b4, hf⟩ := Option.bind_eq_some_iff.mp hf
  refine x_rI b4 dX35_layBox_183 ?_
  refine w_i2l dX35_layBox_184 ?_
  refine w_aload_n dX35_layBox_185 rfl rfl ?_
  obtain ⟨a5, b6, hf⟩ := Option.bind_eq_some_iff.mp hf
  refine GX35_185 b6 dX35_layBox_186 rfl ?_
  refine w_iload dX35_layBox_189 rfl ?_
  refine w_iconst dX35_layBox_191 (v := 4) (by decide) ?_
  refine w_iadd dX35_layBox_192 ?_
  obtain ⟨x7, b8, hf⟩ := Option.bind_eq_some_iff.mp hf
  refine x_rI b8 dX35_layBox_193 ?_
  refine w_i2l dX35_layBox_194 ?_
  refine w_aload_n dX35_layBox_195 rfl rfl ?_
  obtain ⟨a9, b10, hf⟩ := Option.bind_eq_some_iff.mp hf
  refine GX35_185 b10 dX35_layBox_196 rfl ?_
  refine w_iload dX35_layBox_199 rfl ?_
  refine w_iconst dX35_layBox_201 (v := 5) (by decide) ?_
  refine w_iadd dX35_layBox_202 ?_
  obtain ⟨x11, b12, hf⟩ := Option.bind_eq_some_iff.mp hf
  refine x_rI b12 dX35_layBox_203 ?_
  refine w_i2l dX35_layBox_204 ?_
  obtain ⟨_, b13, hf⟩ := Option.bind_eq_some_iff.mp hf
  refine x_cnI hf (e_stV (Yc := YX35_note) (ci := 34) (av := [.int s1, .int s2, .long s3, .long s4, .long (x3).toInt64, .long (x7).toInt64, .long (x11).toInt64]) (st := []) dX35_layBox_205 q5574 mX35_note rfl (k_ok_some b13).1 (k_ok_some b13).2) mX35_note.2.2.1 mX35_note.2.2.2.2.1 (Nat.le_of_ble_eq_true rfl) (Nat.le_of_ble_eq_true rfl) (fun q hq => pX35_note (by omega) hq) (fun q14 hf => ?_)
  refine w_istore dX35_layBox_208 (by decide) (ls' := [some (.ref l0), some (.int l1), some (.long l2), none, some (.long l4), none, some (.int q14.1), some (.int l7), some (.int l8), none, none, none, none, none, none, none, none, none, none, none, none]) rfl ?_
  refine w_goto 401 dX35_layBox_210 (by decide) ?_
  exact (pX35_layBox_b401 hd hdr hsL hk11 hf).to ⟨rfl, rfl, rfl, rfl, rfl, rfl, trivial⟩
def fX35_layBox_b312 (N : Nat) (sL : Nat → Int32 → Int64 → Int64 → eH → Option (Int32 × eH)) (k11 : Nat → Int32 → Int64 → Int64 → Int32 → Int32 → eH → Option (Int32 × eH)) (l0 : Nat) (l1 : Int32) (l2 : Int64) (l4 : Int64) (l7 : Int32) (s0 : Int32) (h : eH) : Option (Int32 × eH) :=
  fX35_layBox_b401 N sL k11 l0 l1 l2 l4 s0 l7 h
theorem pX35_layBox_b312 {w : eW} {d : Nat} {dr : Nat} (hd : dr + 5 ≤ d + 1) (hdr : 12 ≤ dr) {N : Nat} {sL : Nat → Int32 → Int64 → Int64 → eH → Option (Int32 × eH)} (hsL : ∀ a t0 t1 t2 h q, sL a t0 t1 t2 h = some q → wm w dr YX35_layBox [.ref a, .int t0, .long t1, .long t2] h (e_is (e_rn c_I q))) {k11 : Nat → Int32 → Int64 → Int64 → Int32 → Int32 → eH → Option (Int32 × eH)} (hk11 : ∀ l0 l1 l2 l4 l6 l7 h q, k11 l0 l1 l2 l4 l6 l7 h = some q → wp w (d + 1) YX35_layBox 11 [some (.ref l0), some (.int l1), some (.long l2), none, some (.long l4), none, some (.int l6), some (.int l7), none, none, none, none, none, none, none, none, none, none, none, none, none] [] h (e_is (e_rn c_I q))) {l0 : Nat} {l1 : Int32} {l2 : Int64} {l4 : Int64} {l7 : Int32} {s0 : Int32} {h : eH} {q} (hf : fX35_layBox_b312 N sL k11 l0 l1 l2 l4 l7 s0 h = some q) : wp w (d + 1) YX35_layBox 312 [some (.ref l0), some (.int l1), some (.long l2), none, some (.long l4), none, none, some (.int l7), none, none, none, none, none, none, none, none, none, none, none, none, none] [.int s0] h (e_is (e_rn c_I q)) := by
  unfold fX35_layBox_b312 at hf
  refine w_istore dX35_layBox_312 (by decide) (ls' := [some (.ref l0), some (.int l1), some (.long l2), none, some (.long l4), none, some (.int s0), some (.int l7), none, none, none, none, none, none, none, none, none, none, none, none, none]) rfl ?_
  refine w_goto 401 dX35_layBox_314 (by decide) ?_
  exact (pX35_layBox_b401 hd hdr hsL hk11 hf).to ⟨rfl, rfl, rfl, rfl, rfl, rfl, trivial⟩
def fX35_layBox_b307 (N : Nat) (sL : Nat → Int32 → Int64 → Int64 → eH → Option (Int32 × eH)) (k11 : Nat → Int32 → Int64 → Int64 → Int32 → Int32 → eH → Option (Int32 × eH)) (l0 : Nat) (l1 : Int32) (l2 : Int64) (l4 : Int64) (l7 : Int32) (h : eH) : Option (Int32 × eH) :=
  fX35_layBox_b312 N sL k11 l0 l1 l2 l4 l7 (1 : Int32) h
theorem pX35_layBox_b307 {w : eW} {d : Nat} {dr : Nat} (hd : dr + 5 ≤ d + 1) (hdr : 12 ≤ dr) {N : Nat} {sL : Nat → Int32 → Int64 → Int64 → eH → Option (Int32 × eH)} (hsL : ∀ a t0 t1 t2 h q, sL a t0 t1 t2 h = some q → wm w dr YX35_layBox [.ref a, .int t0, .long t1, .long t2] h (e_is (e_rn c_I q))) {k11 : Nat → Int32 → Int64 → Int64 → Int32 → Int32 → eH → Option (Int32 × eH)} (hk11 : ∀ l0 l1 l2 l4 l6 l7 h q, k11 l0 l1 l2 l4 l6 l7 h = some q → wp w (d + 1) YX35_layBox 11 [some (.ref l0), some (.int l1), some (.long l2), none, some (.long l4), none, some (.int l6), some (.int l7), none, none, none, none, none, none, none, none, none, none, none, none, none] [] h (e_is (e_rn c_I q))) {l0 : Nat} {l1 : Int32} {l2 : Int64} {l4 : Int64} {l7 : Int32} {h : eH} {q} (hf : fX35_layBox_b307 N sL k11 l0 l1 l2 l4 l7 h = some q) : wp w (d + 1) YX35_layBox 307 [some (.ref l0), some (.int l1), some (.long l2), none, some (.long l4), none, none, some (.int l7), none, none, none, none, none, none, none, none, none, none, none, none, none] [] h (e_is (e_rn c_I q)) := by
  unfold fX35_layBox_b307 at hf
  refine w_iconst dX35_layBox_307 (v := 1) (by decide) ?_
  refine w_goto 312 dX35_layBox_308 (by decide) ?_
  exact (pX35_layBox_b312 hd hdr hsL hk11 hf).to ⟨rfl, rfl, rfl, rfl, rfl, trivial⟩
def fX35_layBox_b295 (N : Nat) (sL : Nat → Int32 → Int64 → Int64 → eH → Option (Int32 × eH)) (k11 : Nat → Int32 → Int64 → Int64 → Int32 → Int32 → eH → Option (Int32 × eH)) (l0 : Nat) (l1 : Int32) (l2 : Int64) (l4 : Int64) (l7 : Int32) (l15 : Int64) (l17 : Int64) (l19 : Int64) (s0 : Nat) (s1 : Int32) (s2 : Int32) (s3 : Int64) (s4 : Int64) (h : eH) : Option (Int32 × eH) :=
  (k_ok 34 h s0).bind fun _ =>
  (fX35_note s0 s1 s2 s3 s4 l15 l17 l19 h).bind fun q2 =>
  if q2.1 = 0 then
    fX35_layBox_b312 N sL k11 l0 l1 l2 l4 l7 (0 : Int32) q2.2
  else
    fX35_layBox_b307 N sL k11 l0 l1 l2 l4 l7 q2.2
theorem pX35_layBox_b295 {w : eW} {d : Nat} {dr : Nat} (hd : dr + 5 ≤ d + 1) (hdr : 12 ≤ dr) {N : Nat} {sL : Nat → Int32 → Int64 → Int64 → eH → Option (Int32 × eH)} (hsL : ∀ a t0 t1 t2 h q, sL a t0 t1 t2 h = some q → wm w dr YX35_layBox [.ref a, .int t0, .long t1, .long t2] h (e_is (e_rn c_I q))) {k11 : Nat → Int32 → Int64 → Int64 → Int32 → Int32 → eH → Option (Int32 × eH)} (hk11 : ∀ l0 l1 l2 l4 l6 l7 h q, k11 l0 l1 l2 l4 l6 l7 h = some q → wp w (d + 1) YX35_layBox 11 [some (.ref l0), some (.int l1), some (.long l2), none, some (.long l4), none, some (.int l6), some (.int l7), none, none, none, none, none, none, none, none, none, none, none, none, none] [] h (e_is (e_rn c_I q))) {l0 : Nat} {l1 : Int32} {l2 : Int64} {l4 : Int64} {l7 : Int32} {l15 : Int64} {l17 : Int64} {l19 : Int64} {s0 : Nat} {s1 : Int32} {s2 : Int32} {s3 : Int64} {s4 : Int64} {h : eH} {q} (hf : fX35_layBox_b295 N sL k11 l0 l1 l2 l4 l7 l15 l17 l19 s0 s1 s2 s3 s4 h = some q) : wp w (d + 1) YX35_layBox 295 [some (.ref l0), some (.int l1), some (.long l2), none, some (.long l4), none, none, some (.int l7), none, none, none, none, none, none, none, some (.long l15), none, some (.long l17), none, some (.long l19), none] [.long s4, .long s3, .int s2, .int s1, .ref s0] h (e_is (e_rn c_I q)) := by
  unfold fX35_layBox_b295 at hf
  refine w_lload dX35_layBox_295 rfl ?_
  refine w_lload dX35_layBox_297 rfl ?_
  refine w_lload dX35_layBox_299 rfl ?_
  obtain ⟨_, b1, hf⟩ := Option.bind_eq_some_iff.mp hf
  refine x_cnI hf (e_stV (Yc := YX35_note) (ci := 34) (av := [.int s1, .int s2, .long s3, .long s4, .long l15, .long l17, .long l19]) (st := []) dX35_layBox_301 q5574 mX35_note rfl (k_ok_some b1).1 (k_ok_some b1).2) mX35_note.2.2.1 mX35_note.2.2.2.2.1 (Nat.le_of_ble_eq_true rfl) (Nat.le_of_ble_eq_true rfl) (fun q hq => pX35_note (by omega) hq) (fun q2 hf => ?_)
  refine w_if_eq 311 dX35_layBox_304 (by decide) (fun c3 => ?_) (fun c3 => ?_)
  · replace hf := (if_pos (show q2.1 = 0 from c3)).symm.trans hf
    refine w_iconst dX35_layBox_311 (v := 0) (by decide) ?_
    exact (pX35_layBox_b312 hd hdr hsL hk11 hf).to ⟨rfl, rfl, rfl, rfl, rfl, trivial⟩
  · replace hf := (if_neg (show ¬ (q2.1 = 0) from c3)).symm.trans hf
    exact (pX35_layBox_b307 hd hdr hsL hk11 hf).to ⟨rfl, rfl, rfl, rfl, rfl, trivial⟩
def fX35_layBox_b399 (N : Nat) (sL : Nat → Int32 → Int64 → Int64 → eH → Option (Int32 × eH)) (k11 : Nat → Int32 → Int64 → Int64 → Int32 → Int32 → eH → Option (Int32 × eH)) (l0 : Nat) (l1 : Int32) (l2 : Int64) (l4 : Int64) (l7 : Int32) (s0 : Int32) (h : eH) : Option (Int32 × eH) :=
  fX35_layBox_b401 N sL k11 l0 l1 l2 l4 s0 l7 h
theorem pX35_layBox_b399 {w : eW} {d : Nat} {dr : Nat} (hd : dr + 5 ≤ d + 1) (hdr : 12 ≤ dr) {N : Nat} {sL : Nat → Int32 → Int64 → Int64 → eH → Option (Int32 × eH)} (hsL : ∀ a t0 t1 t2 h q, sL a t0 t1 t2 h = some q → wm w dr YX35_layBox [.ref a, .int t0, .long t1, .long t2] h (e_is (e_rn c_I q))) {k11 : Nat → Int32 → Int64 → Int64 → Int32 → Int32 → eH → Option (Int32 × eH)} (hk11 : ∀ l0 l1 l2 l4 l6 l7 h q, k11 l0 l1 l2 l4 l6 l7 h = some q → wp w (d + 1) YX35_layBox 11 [some (.ref l0), some (.int l1), some (.long l2), none, some (.long l4), none, some (.int l6), some (.int l7), none, none, none, none, none, none, none, none, none, none, none, none, none] [] h (e_is (e_rn c_I q))) {l0 : Nat} {l1 : Int32} {l2 : Int64} {l4 : Int64} {l7 : Int32} {s0 : Int32} {h : eH} {q} (hf : fX35_layBox_b399 N sL k11 l0 l1 l2 l4 l7 s0 h = some q) : wp w (d + 1) YX35_layBox 399 [some (.ref l0), some (.int l1), some (.long l2), none, some (.long l4), none, none, some (.int l7), none, none, none, none, none, none, none, none, none, none, none, none, none] [.int s0] h (e_is (e_rn c_I q)) := by
  unfold fX35_layBox_b399 at hf
  refine w_istore dX35_layBox_399 (by decide) (ls' := [some (.ref l0), some (.int l1), some (.long l2), none, some (.long l4), none, some (.int s0), some (.int l7), none, none, none, none, none, none, none, none, none, none, none, none, none]) rfl ?_
  exact (pX35_layBox_b401 hd hdr hsL hk11 hf).to ⟨rfl, rfl, rfl, rfl, rfl, rfl, trivial⟩
def fX35_layBox_b115 (N : Nat) (sL : Nat → Int32 → Int64 → Int64 → eH → Option (Int32 × eH)) (k11 : Nat → Int32 → Int64 → Int64 → Int32 → Int32 → eH → Option (Int32 × eH)) (l0 : Nat) (l1 : Int32) (l2 : Int64) (l4 : Int64) (l6 : Int32) (l7 : Int32) (l8 : Int32) (l11 : Int64) (s0 : Int64) (h : eH) : Option (Int32 × eH) :=
  (g_A 34 h l0 77).bind fun a1 =>
  (r_I 100 h a1 l8).bind fun x3 =>
  if ¬ x3 = 0 then
    (g_A 34 h l0 77).bind fun a6 =>
    (r_I 100 h a6 l8).bind fun x8 =>
    if ¬ x8 = (1 : Int32) then
      (g_A 34 h l0 77).bind fun a11 =>
      (r_I 100 h a11 l8).bind fun x13 =>
      if ¬ x13 = (5 : Int32) then
        fX35_layBox_b401 N sL k11 l0 l1 l2 l4 l6 l7 h
      else
        (g_A 34 h l0 77).bind fun a16 =>
        (r_I 100 h a16 (l8 + (1 : Int32))).bind fun x18 =>
        (g_A 34 h l0 77).bind fun a20 =>
        (r_I 100 h a20 (l8 + (2 : Int32))).bind fun x22 =>
        (g_A 34 h l0 67).bind fun a24 =>
        (r_I 103 h a24 l1).bind fun x26 =>
        if x26 = 0 then
          (k_ok 34 h l0).bind fun _ =>
          (sL l0 x18 l11 (s0 + (x22).toInt64) h).bind fun q30 =>
          fX35_layBox_b399 N sL k11 l0 l1 l2 l4 l7 q30.1 q30.2
        else
          (g_A 34 h l0 69).bind fun a31 =>
          (r_I 100 h a31 x18).bind fun x33 =>
          (k_ok 34 h l0).bind fun _ =>
          (sL l0 x18 (l11 + (x22).toInt64) (s0 + (x33).toInt64) h).bind fun q36 =>
          fX35_layBox_b399 N sL k11 l0 l1 l2 l4 l7 q36.1 q36.2
    else
      (k_ok 34 h l0).bind fun _ =>
      (fX35_ruled l0 l1 l8 (0 : Int32) h).bind fun q38 =>
      (k_ok 34 q38.2 l0).bind fun _ =>
      (fX35_ruled l0 l1 l8 (1 : Int32) q38.2).bind fun q40 =>
      (k_ok 34 q40.2 l0).bind fun _ =>
      (fX35_ruled l0 l1 l8 (2 : Int32) q40.2).bind fun q42 =>
      if (lg_cmp q38.1 (0 : Int64)) ≤ 0 then
        fX35_layBox_b307 N sL k11 l0 l1 l2 l4 l7 q42.2
      else
        if (lg_cmp (q40.1 + q42.1) (0 : Int64)) ≤ 0 then
          fX35_layBox_b307 N sL k11 l0 l1 l2 l4 l7 q42.2
        else
          (g_A 34 q42.2 l0 67).bind fun a45 =>
          (r_I 103 q42.2 a45 l1).bind fun x47 =>
          if x47 = 0 then
            fX35_layBox_b295 N sL k11 l0 l1 l2 l4 l7 q38.1 q40.1 q42.1 l0 (-1 : Int32) (0 : Int32) l11 s0 q42.2
          else
            fX35_layBox_b295 N sL k11 l0 l1 l2 l4 l7 q38.1 q40.1 q42.1 l0 (-1 : Int32) (0 : Int32) l11 (s0 + q40.1) q42.2
  else
    (g_A 34 h l0 77).bind fun a50 =>
    (r_I 100 h a50 (l8 + (1 : Int32))).bind fun x52 =>
    (g_A 34 h l0 77).bind fun a54 =>
    (r_I 100 h a54 (l8 + (2 : Int32))).bind fun x56 =>
    (g_A 34 h l0 67).bind fun a58 =>
    (r_I 103 h a58 l1).bind fun x60 =>
    if x60 = 0 then
      fX35_layBox_b175 N sL k11 l0 l1 l2 l4 l7 l8 l0 x52 x56 l11 s0 h
    else
      (g_A 34 h l0 77).bind fun a63 =>
      (r_I 100 h a63 (l8 + (4 : Int32))).bind fun x65 =>
      fX35_layBox_b175 N sL k11 l0 l1 l2 l4 l7 l8 l0 x52 x56 l11 (s0 + (x65).toInt64) h
theorem pX35_layBox_b115 {w : eW} {d : Nat} {dr : Nat} (hd : dr + 5 ≤ d + 1) (hdr : 12 ≤ dr) {N : Nat} {sL : Nat → Int32 → Int64 → Int64 → eH → Option (Int32 × eH)} (hsL : ∀ a t0 t1 t2 h q, sL a t0 t1 t2 h = some q → wm w dr YX35_layBox [.ref a, .int t0, .long t1, .long t2] h (e_is (e_rn c_I q))) {k11 : Nat → Int32 → Int64 → Int64 → Int32 → Int32 → eH → Option (Int32 × eH)} (hk11 : ∀ l0 l1 l2 l4 l6 l7 h q, k11 l0 l1 l2 l4 l6 l7 h = some q → wp w (d + 1) YX35_layBox 11 [some (.ref l0), some (.int l1), some (.long l2), none, some (.long l4), none, some (.int l6), some (.int l7), none, none, none, none, none, none, none, none, none, none, none, none, none] [] h (e_is (e_rn c_I q))) {l0 : Nat} {l1 : Int32} {l2 : Int64} {l4 : Int64} {l6 : Int32} {l7 : Int32} {l8 : Int32} {l11 : Int64} {s0 : Int64} {h : eH} {q} (hf : fX35_layBox_b115 N sL k11 l0 l1 l2 l4 l6 l7 l8 l11 s0 h = some q) : wp w (d + 1) YX35_layBox 115 [some (.ref l0), some (.int l1), some (.long l2), none, some (.long l4), none, some (.int l6), some (.int l7), some (.int l8), none, none, some (.long l11), none, none, none, none, none, none, none, none, none] [.long s0] h (e_is (e_rn c_I q)) := by
  unfold fX35_layBox_b115 at hf
  refine w_lstore dX35_layBox_115 (by decide) (ls' := [some (.ref l0), some (.int l1), some (.long l2), none, some (.long l4), none, some (.int l6), some (.int l7), some (.int l8), none, none, some (.long l11), none, some (.long s0), none, none, none, none, none, none, none]) rfl ?_
  refine w_aload_n dX35_layBox_117 rfl rfl ?_
  obtain ⟨a1, b2, hf⟩ := Option.bind_eq_some_iff.mp hf
  refine GX35_185 b2 dX35_layBox_118 rfl ?_
  refine w_iload dX35_layBox_121 rfl ?_
  obtain ⟨x3, b4, hf⟩ := Option.bind_eq_some_iff.mp hf
  refine x_rI b4 dX35_layBox_123 ?_
  refine w_if_ne 213 dX35_layBox_124 (by decide) (fun c5 => ?_) (fun c5 => ?_)
  · replace hf := (if_pos (show ¬ x3 = 0 from c5)).symm.trans hf
    refine w_aload_n dX35_layBox_213 rfl rfl ?_
    obtain ⟨a6, b7, hf⟩ := Option.bind_eq_some_iff.mp hf
    refine GX35_185 b7 dX35_layBox_214 rfl ?_
    refine w_iload dX35_layBox_217 rfl ?_
    obtain ⟨x8, b9, hf⟩ := Option.bind_eq_some_iff.mp hf
    refine x_rI b9 dX35_layBox_219 ?_
    refine w_iconst dX35_layBox_220 (v := 1) (by decide) ?_
    refine w_icmp_ne 317 dX35_layBox_221 (by decide) (fun c10 => ?_) (fun c10 => ?_)
    · replace hf := (if_pos (show ¬ x8 = (1 : Int32) from c10)).symm.trans hf
      refine w_aload_n dX35_layBox_317 rfl rfl ?_
      obtain ⟨a11, b12, hf⟩ := Option.bind_eq_some_iff.mp hf
      refine GX35_185 b12 dX35_layBox_318 rfl ?_
      refine w_iload dX35_layBox_321 rfl ?_
      obtain ⟨x13, b14, hf⟩ := Option.bind_eq_some_iff.mp hf
      refine x_rI b14 dX35_layBox_323 ?_
      refine w_iconst dX35_layBox_324 (v := 5) (by decide) ?_
      refine w_icmp_ne 401 dX35_layBox_325 (by decide) (fun c15 => ?_) (fun c15 => ?_)
      · replace hf := (if_pos (show ¬ x13 = (5 : Int32) from c15)).symm.trans hf
        exact (pX35_layBox_b401 hd hdr hsL hk11 hf).to ⟨rfl, rfl, rfl, rfl, rfl, rfl, trivial⟩
      · replace hf := (if_neg (show ¬ (¬ x13 = (5 : Int32)) from (fun z => z c15))).symm.trans hf
        refine w_aload_n dX35_layBox_328 rfl rfl ?_
        obtain ⟨a16, b17, hf⟩ := Option.bind_eq_some_iff.mp hf
        refine GX35_185 b17 dX35_layBox_329 rfl ?_
        refine w_iload dX35_layBox_332 rfl ?_
        refine w_iconst dX35_layBox_334 (v := 1) (by decide) ?_
        refine w_iadd dX35_layBox_335 ?_
        obtain ⟨x18, b19, hf⟩ := Option.bind_eq_some_iff.mp hf
        refine x_rI b19 dX35_layBox_336 ?_
        refine w_istore dX35_layBox_337 (by decide) (ls' := [some (.ref l0), some (.int l1), some (.long l2), none, some (.long l4), none, some (.int l6), some (.int l7), some (.int l8), none, none, some (.long l11), none, some (.long s0), none, some (.int x18), none, none, none, none, none]) rfl ?_
        refine w_aload_n dX35_layBox_339 rfl rfl ?_
        obtain ⟨a20, b21, hf⟩ := Option.bind_eq_some_iff.mp hf
        refine GX35_185 b21 dX35_layBox_340 rfl ?_
        refine w_iload dX35_layBox_343 rfl ?_
        refine w_iconst dX35_layBox_345 (v := 2) (by decide) ?_
        refine w_iadd dX35_layBox_346 ?_
        obtain ⟨x22, b23, hf⟩ := Option.bind_eq_some_iff.mp hf
        refine x_rI b23 dX35_layBox_347 ?_
        refine w_istore dX35_layBox_348 (by decide) (ls' := [some (.ref l0), some (.int l1), some (.long l2), none, some (.long l4), none, some (.int l6), some (.int l7), some (.int l8), none, none, some (.long l11), none, some (.long s0), none, some (.int x18), some (.int x22), none, none, none, none]) rfl ?_
        refine w_aload_n dX35_layBox_350 rfl rfl ?_
        obtain ⟨a24, b25, hf⟩ := Option.bind_eq_some_iff.mp hf
        refine GX35_154 b25 dX35_layBox_351 rfl ?_
        refine w_iload_n dX35_layBox_354 rfl rfl ?_
        obtain ⟨x26, b27, hf⟩ := Option.bind_eq_some_iff.mp hf
        refine x_rZ b27 dX35_layBox_355 ?_
        refine w_if_eq 385 dX35_layBox_356 (by decide) (fun c28 => ?_) (fun c28 => ?_)
        · replace hf := (if_pos (show x26 = 0 from c28)).symm.trans hf
          refine w_aload_n dX35_layBox_385 rfl rfl ?_
          refine w_iload dX35_layBox_386 rfl ?_
          refine w_lload dX35_layBox_388 rfl ?_
          refine w_lload dX35_layBox_390 rfl ?_
          refine w_iload dX35_layBox_392 rfl ?_
          refine w_i2l dX35_layBox_394 ?_
          refine w_ladd dX35_layBox_395 ?_
          obtain ⟨_, b29, hf⟩ := Option.bind_eq_some_iff.mp hf
          refine x_cnI hf (e_stV (Yc := YX35_layBox) (ci := 34) (av := [.int x18, .long l11, .long (s0 + (x22).toInt64)]) (st := []) dX35_layBox_396 q5535 mX35_layBox rfl (k_ok_some b29).1 (k_ok_some b29).2) mX35_layBox.2.2.1 mX35_layBox.2.2.2.2.1 (Nat.le_of_ble_eq_true rfl) (Nat.le_of_ble_eq_true rfl) (fun q hq => (hsL _ _ _ _ _ _ hq).up (by omega)) (fun q30 hf => ?_)
          exact (pX35_layBox_b399 hd hdr hsL hk11 hf).to ⟨rfl, rfl, rfl, rfl, rfl, trivial⟩
        · replace hf := (if_neg (show ¬ (x26 = 0) from c28)).symm.trans hf
          refine w_aload_n dX35_layBox_359 rfl rfl ?_
          refine w_iload dX35_layBox_360 rfl ?_
          refine w_lload dX35_layBox_362 rfl ?_
          refine w_iload dX35_layBox_364 rfl ?_
          refine w_i2l dX35_layBox_366 ?_
          refine w_ladd dX35_layBox_367 ?_
          refine w_lload dX35_layBox_368 rfl ?_
          refine w_aload_n dX35_layBox_370 rfl rfl ?_
          obtain ⟨a31, b32, hf⟩ := Option.bind_eq_some_iff.mp hf
          refine GX35_160 b32 dX35_layBox_371 rfl ?_
          refine w_iload dX35_layBox_374 rfl ?_
          obtain ⟨x33, b34, hf⟩ := Option.bind_eq_some_iff.mp hf
          refine x_rI b34 dX35_layBox_376 ?_
          refine w_i2l dX35_layBox_377 ?_
          refine w_ladd dX35_layBox_378 ?_
          obtain ⟨_, b35, hf⟩ := Option.bind_eq_some_iff.mp hf
          refine x_cnI hf (e_stV (Yc := YX35_layBox) (ci := 34) (av := [.int x18, .long (l11 + (x22).toInt64), .long (s0 + (x33).toInt64)]) (st := []) dX35_layBox_379 q5535 mX35_layBox rfl (k_ok_some b35).1 (k_ok_some b35).2) mX35_layBox.2.2.1 mX35_layBox.2.2.2.2.1 (Nat.le_of_ble_eq_true rfl) (Nat.le_of_ble_eq_true rfl) (fun q hq => (hsL _ _ _ _ _ _ hq).up (by omega)) (fun q36 hf => ?_)
          refine w_goto 399 dX35_layBox_382 (by decide) ?_
          exact (pX35_layBox_b399 hd hdr hsL hk11 hf).to ⟨rfl, rfl, rfl, rfl, rfl, trivial⟩
    · replace hf := (if_neg (show ¬ (¬ x8 = (1 : Int32)) from (fun z => z c10))).symm.trans hf
      refine w_aload_n dX35_layBox_224 rfl rfl ?_
      refine w_iload_n dX35_layBox_225 rfl rfl ?_
      refine w_iload dX35_layBox_226 rfl ?_
      refine w_iconst dX35_layBox_228 (v := 0) (by decide) ?_
      obtain ⟨_, b37, hf⟩ := Option.bind_eq_some_iff.mp hf
      refine x_cnJ hf (e_stV (Yc := YX35_ruled) (ci := 34) (av := [.int l1, .int l8, .int (0 : Int32)]) (st := []) dX35_layBox_229 q5578 mX35_ruled rfl (k_ok_some b37).1 (k_ok_some b37).2) mX35_ruled.2.2.1 mX35_ruled.2.2.2.2.1 (Nat.le_of_ble_eq_true rfl) (Nat.le_of_ble_eq_true rfl) (fun q hq => pX35_ruled (by omega) hq) (fun q38 hf => ?_)
      refine w_lstore dX35_layBox_232 (by decide) (ls' := [some (.ref l0), some (.int l1), some (.long l2), none, some (.long l4), none, some (.int l6), some (.int l7), some (.int l8), none, none, some (.long l11), none, some (.long s0), none, some (.long q38.1), none, none, none, none, none]) rfl ?_
      refine w_aload_n dX35_layBox_234 rfl rfl ?_
      refine w_iload_n dX35_layBox_235 rfl rfl ?_
      refine w_iload dX35_layBox_236 rfl ?_
      refine w_iconst dX35_layBox_238 (v := 1) (by decide) ?_
      obtain ⟨_, b39, hf⟩ := Option.bind_eq_some_iff.mp hf
      refine x_cnJ hf (e_stV (Yc := YX35_ruled) (ci := 34) (av := [.int l1, .int l8, .int (1 : Int32)]) (st := []) dX35_layBox_239 q5578 mX35_ruled rfl (k_ok_some b39).1 (k_ok_some b39).2) mX35_ruled.2.2.1 mX35_ruled.2.2.2.2.1 (Nat.le_of_ble_eq_true rfl) (Nat.le_of_ble_eq_true rfl) (fun q hq => pX35_ruled (by omega) hq) (fun q40 hf => ?_)
      refine w_lstore dX35_layBox_242 (by decide) (ls' := [some (.ref l0), some (.int l1), some (.long l2), none, some (.long l4), none, some (.int l6), some (.int l7), some (.int l8), none, none, some (.long l11), none, some (.long s0), none, some (.long q38.1), none, some (.long q40.1), none, none, none]) rfl ?_
      refine w_aload_n dX35_layBox_244 rfl rfl ?_
      refine w_iload_n dX35_layBox_245 rfl rfl ?_
      refine w_iload dX35_layBox_246 rfl ?_
      refine w_iconst dX35_layBox_248 (v := 2) (by decide) ?_
      obtain ⟨_, b41, hf⟩ := Option.bind_eq_some_iff.mp hf
      refine x_cnJ hf (e_stV (Yc := YX35_ruled) (ci := 34) (av := [.int l1, .int l8, .int (2 : Int32)]) (st := []) dX35_layBox_249 q5578 mX35_ruled rfl (k_ok_some b41).1 (k_ok_some b41).2) mX35_ruled.2.2.1 mX35_ruled.2.2.2.2.1 (Nat.le_of_ble_eq_true rfl) (Nat.le_of_ble_eq_true rfl) (fun q hq => pX35_ruled (by omega) hq) (fun q42 hf => ?_)
      refine w_lstore dX35_layBox_252 (by decide) (ls' := [some (.ref l0), some (.int l1), some (.long l2), none, some (.long l4), none, some (.int l6), some (.int l7), some (.int l8), none, none, some (.long l11), none, some (.long s0), none, some (.long q38.1), none, some (.long q40.1), none, some (.long q42.1), none]) rfl ?_
      refine w_lload dX35_layBox_254 rfl ?_
      refine w_lconst dX35_layBox_256 (v := 0) (by decide) ?_
      refine w_lcmp dX35_layBox_257 ?_
      refine w_if_le 307 dX35_layBox_258 (by decide) (fun c43 => ?_) (fun c43 => ?_)
      · replace hf := (if_pos (show (lg_cmp q38.1 (0 : Int64)) ≤ 0 from c43)).symm.trans hf
        exact (pX35_layBox_b307 hd hdr hsL hk11 hf).to ⟨rfl, rfl, rfl, rfl, rfl, trivial⟩
      · replace hf := (if_neg (show ¬ ((lg_cmp q38.1 (0 : Int64)) ≤ 0) from c43)).symm.trans hf
        refine w_lload dX35_layBox_261 rfl ?_
        refine w_lload dX35_layBox_263 rfl ?_
        refine w_ladd dX35_layBox_265 ?_
        refine w_lconst dX35_layBox_266 (v := 0) (by decide) ?_
        refine w_lcmp dX35_layBox_267 ?_
        refine w_if_le 307 dX35_layBox_268 (by decide) (fun c44 => ?_) (fun c44 => ?_)
        · replace hf := (if_pos (show (lg_cmp (q40.1 + q42.1) (0 : Int64)) ≤ 0 from c44)).symm.trans hf
          exact (pX35_layBox_b307 hd hdr hsL hk11 hf).to ⟨rfl, rfl, rfl, rfl, rfl, trivial⟩
        · replace hf := (if_neg (show ¬ ((lg_cmp (q40.1 + q42.1) (0 : Int64)) ≤ 0) from c44)).symm.trans hf
          refine w_aload_n dX35_layBox_271 rfl rfl ?_
          refine w_iconst dX35_layBox_272 (v := -1) (by decide) ?_
          refine w_iconst dX35_layBox_273 (v := 0) (by decide) ?_
          refine w_lload dX35_layBox_274 rfl ?_
          refine w_aload_n dX35_layBox_276 rfl rfl ?_
          obtain ⟨a45, b46, hf⟩ := Option.bind_eq_some_iff.mp hf
          refine GX35_154 b46 dX35_layBox_277 rfl ?_
          refine w_iload_n dX35_layBox_280 rfl rfl ?_
          obtain ⟨x47, b48, hf⟩ := Option.bind_eq_some_iff.mp hf
          refine x_rZ b48 dX35_layBox_281 ?_
          refine w_if_eq 293 dX35_layBox_282 (by decide) (fun c49 => ?_) (fun c49 => ?_)
          · replace hf := (if_pos (show x47 = 0 from c49)).symm.trans hf
            refine w_lload dX35_layBox_293 rfl ?_
            exact (pX35_layBox_b295 hd hdr hsL hk11 hf).to ⟨rfl, rfl, rfl, rfl, rfl, rfl, rfl, rfl, trivial⟩
          · replace hf := (if_neg (show ¬ (x47 = 0) from c49)).symm.trans hf
            refine w_lload dX35_layBox_285 rfl ?_
            refine w_lload dX35_layBox_287 rfl ?_
            refine w_ladd dX35_layBox_289 ?_
            refine w_goto 295 dX35_layBox_290 (by decide) ?_
            exact (pX35_layBox_b295 hd hdr hsL hk11 hf).to ⟨rfl, rfl, rfl, rfl, rfl, rfl, rfl, rfl, trivial⟩
  · replace hf := (if_neg (show ¬ (¬ x3 = 0) from (fun z => z c5))).symm.trans hf
    refine w_aload_n dX35_layBox_127 rfl rfl ?_
    refine w_aload_n dX35_layBox_128 rfl rfl ?_
    obtain ⟨a50, b51, hf⟩ := Option.bind_eq_some_iff.mp hf
    refine GX35_185 b51 dX35_layBox_129 rfl ?_
    refine w_iload dX35_layBox_132 rfl ?_
    refine w_iconst dX35_layBox_134 (v := 1) (by decide) ?_
    refine w_iadd dX35_layBox_135 ?_
    obtain ⟨x52, b53, hf⟩ := Option.bind_eq_some_iff.mp hf
    refine x_rI b53 dX35_layBox_136 ?_
    refine w_aload_n dX35_layBox_137 rfl rfl ?_
    obtain ⟨a54, b55, hf⟩ := Option.bind_eq_some_iff.mp hf
    refine GX35_185 b55 dX35_layBox_138 rfl ?_
    refine w_iload dX35_layBox_141 rfl ?_
    refine w_iconst dX35_layBox_143 (v := 2) (by decide) ?_
    refine w_iadd dX35_layBox_144 ?_
    obtain ⟨x56, b57, hf⟩ := Option.bind_eq_some_iff.mp hf
    refine x_rI b57 dX35_layBox_145 ?_
    refine w_lload dX35_layBox_146 rfl ?_
    refine w_aload_n dX35_layBox_148 rfl rfl ?_
    obtain ⟨a58, b59, hf⟩ := Option.bind_eq_some_iff.mp hf
    refine GX35_154 b59 dX35_layBox_149 rfl ?_
    refine w_iload_n dX35_layBox_152 rfl rfl ?_
    obtain ⟨x60, b61, hf⟩ := Option.bind_eq_some_iff.mp hf
    refine x_rZ b61 dX35_layBox_153 ?_
    refine w_if_eq 173 dX35_layBox_154 (by decide) (fun c62 => ?_) (fun c62 => ?_)
    · replace hf := (if_pos (show x60 = 0 from c62)).symm.trans hf
      refine w_lload dX35_layBox_173 rfl ?_
      exact (pX35_layBox_b175 hd hdr hsL hk11 hf).to ⟨rfl, rfl, rfl, rfl, rfl, rfl, trivial⟩
    · replace hf := (if_neg (show ¬ (x60 = 0) from c62)).symm.trans hf
      refine w_lload dX35_layBox_157 rfl ?_
      refine w_aload_n dX35_layBox_159 rfl rfl ?_
      obtain ⟨a63, b64, hf⟩ := Option.bind_eq_some_iff.mp hf
      refine GX35_185 b64 dX35_layBox_160 rfl ?_
      refine w_iload dX35_layBox_163 rfl ?_
      refine w_iconst dX35_layBox_165 (v := 4) (by decide) ?_
      refine w_iadd dX35_layBox_166 ?_
      obtain ⟨x65, b66, hf⟩ := Option.bind_eq_some_iff.mp hf
      refine x_rI b66 dX35_layBox_167 ?_
      refine w_i2l dX35_layBox_168 ?_
      refine w_ladd dX35_layBox_169 ?_
      refine w_goto 175 dX35_layBox_170 (by decide) ?_
      exact (pX35_layBox_b175 hd hdr hsL hk11 hf).to ⟨rfl, rfl, rfl, rfl, rfl, rfl, trivial⟩
def fX35_layBox_b86 (N : Nat) (sL : Nat → Int32 → Int64 → Int64 → eH → Option (Int32 × eH)) (k11 : Nat → Int32 → Int64 → Int64 → Int32 → Int32 → eH → Option (Int32 × eH)) (l0 : Nat) (l1 : Int32) (l2 : Int64) (l4 : Int64) (l6 : Int32) (l7 : Int32) (l8 : Int32) (l9 : Int64) (s0 : Int64) (h : eH) : Option (Int32 × eH) :=
  (g_A 34 h l0 67).bind fun a1 =>
  (r_I 103 h a1 l1).bind fun x3 =>
  if x3 = 0 then
    fX35_layBox_b115 N sL k11 l0 l1 l2 l4 l6 l7 l8 s0 l4 h
  else
    (g_A 34 h l0 69).bind fun a6 =>
    (r_I 100 h a6 l1).bind fun x8 =>
    fX35_layBox_b115 N sL k11 l0 l1 l2 l4 l6 l7 l8 s0 ((l4 - (x8).toInt64) + l9) h
theorem pX35_layBox_b86 {w : eW} {d : Nat} {dr : Nat} (hd : dr + 5 ≤ d + 1) (hdr : 12 ≤ dr) {N : Nat} {sL : Nat → Int32 → Int64 → Int64 → eH → Option (Int32 × eH)} (hsL : ∀ a t0 t1 t2 h q, sL a t0 t1 t2 h = some q → wm w dr YX35_layBox [.ref a, .int t0, .long t1, .long t2] h (e_is (e_rn c_I q))) {k11 : Nat → Int32 → Int64 → Int64 → Int32 → Int32 → eH → Option (Int32 × eH)} (hk11 : ∀ l0 l1 l2 l4 l6 l7 h q, k11 l0 l1 l2 l4 l6 l7 h = some q → wp w (d + 1) YX35_layBox 11 [some (.ref l0), some (.int l1), some (.long l2), none, some (.long l4), none, some (.int l6), some (.int l7), none, none, none, none, none, none, none, none, none, none, none, none, none] [] h (e_is (e_rn c_I q))) {l0 : Nat} {l1 : Int32} {l2 : Int64} {l4 : Int64} {l6 : Int32} {l7 : Int32} {l8 : Int32} {l9 : Int64} {s0 : Int64} {h : eH} {q} (hf : fX35_layBox_b86 N sL k11 l0 l1 l2 l4 l6 l7 l8 l9 s0 h = some q) : wp w (d + 1) YX35_layBox 86 [some (.ref l0), some (.int l1), some (.long l2), none, some (.long l4), none, some (.int l6), some (.int l7), some (.int l8), some (.long l9), none, none, none, none, none, none, none, none, none, none, none] [.long s0] h (e_is (e_rn c_I q)) := by
  unfold fX35_layBox_b86 at hf
  refine w_lstore dX35_layBox_86 (by decide) (ls' := [some (.ref l0), some (.int l1), some (.long l2), none, some (.long l4), none, some (.int l6), some (.int l7), some (.int l8), some (.long l9), none, some (.long s0), none, none, none, none, none, none, none, none, none]) rfl ?_
  refine w_aload_n dX35_layBox_88 rfl rfl ?_
  obtain ⟨a1, b2, hf⟩ := Option.bind_eq_some_iff.mp hf
  refine GX35_154 b2 dX35_layBox_89 rfl ?_
  refine w_iload_n dX35_layBox_92 rfl rfl ?_
  obtain ⟨x3, b4, hf⟩ := Option.bind_eq_some_iff.mp hf
  refine x_rZ b4 dX35_layBox_93 ?_
  refine w_if_eq 113 dX35_layBox_94 (by decide) (fun c5 => ?_) (fun c5 => ?_)
  · replace hf := (if_pos (show x3 = 0 from c5)).symm.trans hf
    refine w_lload dX35_layBox_113 rfl ?_
    exact (pX35_layBox_b115 hd hdr hsL hk11 hf).to ⟨rfl, rfl, rfl, rfl, rfl, rfl, rfl, rfl, trivial⟩
  · replace hf := (if_neg (show ¬ (x3 = 0) from c5)).symm.trans hf
    refine w_lload dX35_layBox_97 rfl ?_
    refine w_aload_n dX35_layBox_99 rfl rfl ?_
    obtain ⟨a6, b7, hf⟩ := Option.bind_eq_some_iff.mp hf
    refine GX35_160 b7 dX35_layBox_100 rfl ?_
    refine w_iload_n dX35_layBox_103 rfl rfl ?_
    obtain ⟨x8, b9, hf⟩ := Option.bind_eq_some_iff.mp hf
    refine x_rI b9 dX35_layBox_104 ?_
    refine w_i2l dX35_layBox_105 ?_
    refine w_lsub dX35_layBox_106 ?_
    refine w_lload dX35_layBox_107 rfl ?_
    refine w_ladd dX35_layBox_109 ?_
    refine w_goto 115 dX35_layBox_110 (by decide) ?_
    exact (pX35_layBox_b115 hd hdr hsL hk11 hf).to ⟨rfl, rfl, rfl, rfl, rfl, rfl, rfl, rfl, trivial⟩
def fX35_layBox_b67 (N : Nat) (sL : Nat → Int32 → Int64 → Int64 → eH → Option (Int32 × eH)) (k11 : Nat → Int32 → Int64 → Int64 → Int32 → Int32 → eH → Option (Int32 × eH)) (l0 : Nat) (l1 : Int32) (l2 : Int64) (l4 : Int64) (l6 : Int32) (l7 : Int32) (l8 : Int32) (s0 : Int64) (h : eH) : Option (Int32 × eH) :=
  (g_A 34 h l0 67).bind fun a1 =>
  (r_I 103 h a1 l1).bind fun x3 =>
  if x3 = 0 then
    fX35_layBox_b86 N sL k11 l0 l1 l2 l4 l6 l7 l8 s0 (l2 + s0) h
  else
    fX35_layBox_b86 N sL k11 l0 l1 l2 l4 l6 l7 l8 s0 l2 h
theorem pX35_layBox_b67 {w : eW} {d : Nat} {dr : Nat} (hd : dr + 5 ≤ d + 1) (hdr : 12 ≤ dr) {N : Nat} {sL : Nat → Int32 → Int64 → Int64 → eH → Option (Int32 × eH)} (hsL : ∀ a t0 t1 t2 h q, sL a t0 t1 t2 h = some q → wm w dr YX35_layBox [.ref a, .int t0, .long t1, .long t2] h (e_is (e_rn c_I q))) {k11 : Nat → Int32 → Int64 → Int64 → Int32 → Int32 → eH → Option (Int32 × eH)} (hk11 : ∀ l0 l1 l2 l4 l6 l7 h q, k11 l0 l1 l2 l4 l6 l7 h = some q → wp w (d + 1) YX35_layBox 11 [some (.ref l0), some (.int l1), some (.long l2), none, some (.long l4), none, some (.int l6), some (.int l7), none, none, none, none, none, none, none, none, none, none, none, none, none] [] h (e_is (e_rn c_I q))) {l0 : Nat} {l1 : Int32} {l2 : Int64} {l4 : Int64} {l6 : Int32} {l7 : Int32} {l8 : Int32} {s0 : Int64} {h : eH} {q} (hf : fX35_layBox_b67 N sL k11 l0 l1 l2 l4 l6 l7 l8 s0 h = some q) : wp w (d + 1) YX35_layBox 67 [some (.ref l0), some (.int l1), some (.long l2), none, some (.long l4), none, some (.int l6), some (.int l7), some (.int l8), none, none, none, none, none, none, none, none, none, none, none, none] [.long s0] h (e_is (e_rn c_I q)) := by
  unfold fX35_layBox_b67 at hf
  refine w_lstore dX35_layBox_67 (by decide) (ls' := [some (.ref l0), some (.int l1), some (.long l2), none, some (.long l4), none, some (.int l6), some (.int l7), some (.int l8), some (.long s0), none, none, none, none, none, none, none, none, none, none, none]) rfl ?_
  refine w_aload_n dX35_layBox_69 rfl rfl ?_
  obtain ⟨a1, b2, hf⟩ := Option.bind_eq_some_iff.mp hf
  refine GX35_154 b2 dX35_layBox_70 rfl ?_
  refine w_iload_n dX35_layBox_73 rfl rfl ?_
  obtain ⟨x3, b4, hf⟩ := Option.bind_eq_some_iff.mp hf
  refine x_rZ b4 dX35_layBox_74 ?_
  refine w_if_eq 82 dX35_layBox_75 (by decide) (fun c5 => ?_) (fun c5 => ?_)
  · replace hf := (if_pos (show x3 = 0 from c5)).symm.trans hf
    refine w_lload_n dX35_layBox_82 rfl rfl ?_
    refine w_lload dX35_layBox_83 rfl ?_
    refine w_ladd dX35_layBox_85 ?_
    exact (pX35_layBox_b86 hd hdr hsL hk11 hf).to ⟨rfl, rfl, rfl, rfl, rfl, rfl, rfl, rfl, trivial⟩
  · replace hf := (if_neg (show ¬ (x3 = 0) from c5)).symm.trans hf
    refine w_lload_n dX35_layBox_78 rfl rfl ?_
    refine w_goto 86 dX35_layBox_79 (by decide) ?_
    exact (pX35_layBox_b86 hd hdr hsL hk11 hf).to ⟨rfl, rfl, rfl, rfl, rfl, rfl, rfl, rfl, trivial⟩
def fX35_layBox_b407 (N : Nat) (sL : Nat → Int32 → Int64 → Int64 → eH → Option (Int32 × eH)) (l6 : Int32) (h : eH) : Option (Int32 × eH) :=
  z_r l6 (l6, h)
theorem pX35_layBox_b407 {w : eW} {d : Nat} {dr : Nat} (hd : dr + 5 ≤ d + 1) (hdr : 12 ≤ dr) {N : Nat} {sL : Nat → Int32 → Int64 → Int64 → eH → Option (Int32 × eH)} (hsL : ∀ a t0 t1 t2 h q, sL a t0 t1 t2 h = some q → wm w dr YX35_layBox [.ref a, .int t0, .long t1, .long t2] h (e_is (e_rn c_I q))) {l6 : Int32} {h : eH} {q} (hf : fX35_layBox_b407 N sL l6 h = some q) : wp w (d + 1) YX35_layBox 407 [none, none, none, none, none, none, some (.int l6), none, none, none, none, none, none, none, none, none, none, none, none, none, none] [] h (e_is (e_rn c_I q)) := by
  unfold fX35_layBox_b407 at hf
  refine w_iload dX35_layBox_407 rfl ?_
  obtain ⟨b1, rfl⟩ := z_r_some hf
  exact w_iret dX35_layBox_409 rfl b1 rfl
def fX35_layBox_b11 (N : Nat) (sL : Nat → Int32 → Int64 → Int64 → eH → Option (Int32 × eH)) : Nat → Nat → Int32 → Int64 → Int64 → Int32 → Int32 → eH → Option (Int32 × eH)
  | 0, _, _, _, _, _, _, _ => none
  | n + 1, l0, l1, l2, l4, l6, l7, h =>
    (g_A 34 h l0 66).bind fun a1 =>
    (r_I 100 h a1 (l1 + (1 : Int32))).bind fun x3 =>
    if x3 ≤ l7 then
      fX35_layBox_b407 N sL l6 h
    else
      if l6 = 0 then
        fX35_layBox_b407 N sL l6 h
      else
        (g_A 34 h l0 77).bind fun a7 =>
        (r_I 100 h a7 ((6 : Int32) * l7)).bind fun x9 =>
        (fX35_isSolid x9 h).bind fun q11 =>
        if q11.1 = 0 then
          fX35_layBox_b67 N sL (fX35_layBox_b11 N sL n) l0 l1 l2 l4 l6 l7 ((6 : Int32) * l7) (0 : Int64) q11.2
        else
          (g_A 34 q11.2 l0 66).bind fun a13 =>
          (r_I 100 q11.2 a13 l1).bind fun x15 =>
          (k_ok 34 q11.2 l0).bind fun _ =>
          (fX35_placeOf N l0 l1 (l7 - x15) q11.2).bind fun q18 =>
          fX35_layBox_b67 N sL (fX35_layBox_b11 N sL n) l0 l1 l2 l4 l6 l7 ((6 : Int32) * l7) q18.1 q18.2
theorem pX35_layBox_b11 {w : eW} {d : Nat} {dr : Nat} (hd : dr + 5 ≤ d + 1) (hdr : 12 ≤ dr) {N : Nat} {sL : Nat → Int32 → Int64 → Int64 → eH → Option (Int32 × eH)} (hsL : ∀ a t0 t1 t2 h q, sL a t0 t1 t2 h = some q → wm w dr YX35_layBox [.ref a, .int t0, .long t1, .long t2] h (e_is (e_rn c_I q))) : ∀ (n : Nat) l0 l1 l2 l4 l6 l7 h q, fX35_layBox_b11 N sL n l0 l1 l2 l4 l6 l7 h = some q → wp w (d + 1) YX35_layBox 11 [some (.ref l0), some (.int l1), some (.long l2), none, some (.long l4), none, some (.int l6), some (.int l7), none, none, none, none, none, none, none, none, none, none, none, none, none] [] h (e_is (e_rn c_I q)) := by
  intro n
  induction n with
  | zero => intro l0 l1 l2 l4 l6 l7 h q hf; simp [fX35_layBox_b11] at hf
  | succ n ih =>
    intro l0 l1 l2 l4 l6 l7 h q hf
    rw [fX35_layBox_b11] at hf
    refine w_iload dX35_layBox_11 rfl ?_
    refine w_aload_n dX35_layBox_13 rfl rfl ?_
    obtain ⟨a1, b2, hf⟩ := Option.bind_eq_some_iff.mp hf
    refine GX35_151 b2 dX35_layBox_14 rfl ?_
    refine w_iload_n dX35_layBox_17 rfl rfl ?_
    refine w_iconst dX35_layBox_18 (v := 1) (by decide) ?_
    refine w_iadd dX35_layBox_19 ?_
    obtain ⟨x3, b4, hf⟩ := Option.bind_eq_some_iff.mp hf
    refine x_rI b4 dX35_layBox_20 ?_
    refine w_icmp_ge 407 dX35_layBox_21 (by decide) (fun c5 => ?_) (fun c5 => ?_)
    · replace hf := (if_pos (show x3 ≤ l7 from c5)).symm.trans hf
      exact (pX35_layBox_b407 hd hdr hsL hf).to ⟨rfl, trivial⟩
    · replace hf := (if_neg (show ¬ (x3 ≤ l7) from c5)).symm.trans hf
      refine w_iload dX35_layBox_24 rfl ?_
      refine w_if_eq 407 dX35_layBox_26 (by decide) (fun c6 => ?_) (fun c6 => ?_)
      · replace hf := (if_pos (show l6 = 0 from c6)).symm.trans hf
        exact (pX35_layBox_b407 hd hdr hsL hf).to ⟨rfl, trivial⟩
      · replace hf := (if_neg (show ¬ (l6 = 0) from c6)).symm.trans hf
        refine w_bipush dX35_layBox_29 (v := 6) (by decide) ?_
        refine w_iload dX35_layBox_31 rfl ?_
        refine w_imul dX35_layBox_33 ?_
        refine w_istore dX35_layBox_34 (by decide) (ls' := [some (.ref l0), some (.int l1), some (.long l2), none, some (.long l4), none, some (.int l6), some (.int l7), some (.int ((6 : Int32) * l7)), none, none, none, none, none, none, none, none, none, none, none, none]) rfl ?_
        refine w_aload_n dX35_layBox_36 rfl rfl ?_
        obtain ⟨a7, b8, hf⟩ := Option.bind_eq_some_iff.mp hf
        refine GX35_185 b8 dX35_layBox_37 rfl ?_
        refine w_iload dX35_layBox_40 rfl ?_
        obtain ⟨x9, b10, hf⟩ := Option.bind_eq_some_iff.mp hf
        refine x_rI b10 dX35_layBox_42 ?_
        refine x_cnI hf (e_stS (Yc := YX35_isSolid) (av := [.int x9]) (st := []) dX35_layBox_43 q5539 mX35_isSolid) mX35_isSolid.2.2.1 mX35_isSolid.2.2.2.2.1 (Nat.le_of_ble_eq_true rfl) (Nat.le_of_ble_eq_true rfl) (fun q hq => pX35_isSolid (by omega) hq) (fun q11 hf => ?_)
        refine w_if_eq 66 dX35_layBox_46 (by decide) (fun c12 => ?_) (fun c12 => ?_)
        · replace hf := (if_pos (show q11.1 = 0 from c12)).symm.trans hf
          refine w_lconst dX35_layBox_66 (v := 0) (by decide) ?_
          exact (pX35_layBox_b67 hd hdr hsL ih hf).to ⟨rfl, rfl, rfl, rfl, rfl, rfl, rfl, trivial⟩
        · replace hf := (if_neg (show ¬ (q11.1 = 0) from c12)).symm.trans hf
          refine w_aload_n dX35_layBox_49 rfl rfl ?_
          refine w_iload_n dX35_layBox_50 rfl rfl ?_
          refine w_iload dX35_layBox_51 rfl ?_
          refine w_aload_n dX35_layBox_53 rfl rfl ?_
          obtain ⟨a13, b14, hf⟩ := Option.bind_eq_some_iff.mp hf
          refine GX35_151 b14 dX35_layBox_54 rfl ?_
          refine w_iload_n dX35_layBox_57 rfl rfl ?_
          obtain ⟨x15, b16, hf⟩ := Option.bind_eq_some_iff.mp hf
          refine x_rI b16 dX35_layBox_58 ?_
          refine w_isub dX35_layBox_59 ?_
          obtain ⟨_, b17, hf⟩ := Option.bind_eq_some_iff.mp hf
          refine x_cnJ hf (e_stV (Yc := YX35_placeOf) (ci := 34) (av := [.int l1, .int (l7 - x15)]) (st := []) dX35_layBox_60 q5542 mX35_placeOf rfl (k_ok_some b17).1 (k_ok_some b17).2) mX35_placeOf.2.2.1 mX35_placeOf.2.2.2.2.1 (Nat.le_of_ble_eq_true rfl) (Nat.le_of_ble_eq_true rfl) (fun q hq => pX35_placeOf (by omega) hq) (fun q18 hf => ?_)
          refine w_goto 67 dX35_layBox_63 (by decide) ?_
          exact (pX35_layBox_b67 hd hdr hsL ih hf).to ⟨rfl, rfl, rfl, rfl, rfl, rfl, rfl, trivial⟩
def fX35_layBox (N : Nat) (sL : Nat → Int32 → Int64 → Int64 → eH → Option (Int32 × eH)) (this : Nat) (p0 : Int32) (p1 : Int64) (p2 : Int64) (h : eH) : Option (Int32 × eH) :=
  (g_A 34 h this 66).bind fun a1 =>
  (r_I 100 h a1 p0).bind fun x3 =>
  fX35_layBox_b11 N sL N this p0 p1 p2 (1 : Int32) x3 h
theorem pX35_layBox {w : eW} {d : Nat} {dr : Nat} (hd : dr + 5 ≤ d) (hdr : 12 ≤ dr) {N : Nat} {sL : Nat → Int32 → Int64 → Int64 → eH → Option (Int32 × eH)} (hsL : ∀ a t0 t1 t2 h q, sL a t0 t1 t2 h = some q → wm w dr YX35_layBox [.ref a, .int t0, .long t1, .long t2] h (e_is (e_rn c_I q))) {this : Nat} {p0 : Int32} {p1 : Int64} {p2 : Int64} {h : eH} {q} (hf : fX35_layBox N sL this p0 p1 p2 h = some q) : wm w d YX35_layBox [.ref this, .int p0, .long p1, .long p2] h (e_is (e_rn c_I q)) := by
  obtain ⟨d, rfl⟩ : ∃ e, d = e + 1 := ⟨d - 1, by omega⟩
  show wp w (d + 1) YX35_layBox 0 [some (.ref this), some (.int p0), some (.long p1), none, some (.long p2), none, none, none, none, none, none, none, none, none, none, none, none, none, none, none, none] [] h _
  unfold fX35_layBox at hf
  refine w_iconst dX35_layBox_0 (v := 1) (by decide) ?_
  refine w_istore dX35_layBox_1 (by decide) (ls' := [some (.ref this), some (.int p0), some (.long p1), none, some (.long p2), none, some (.int (1 : Int32)), none, none, none, none, none, none, none, none, none, none, none, none, none, none]) rfl ?_
  refine w_aload_n dX35_layBox_3 rfl rfl ?_
  obtain ⟨a1, b2, hf⟩ := Option.bind_eq_some_iff.mp hf
  refine GX35_151 b2 dX35_layBox_4 rfl ?_
  refine w_iload_n dX35_layBox_7 rfl rfl ?_
  obtain ⟨x3, b4, hf⟩ := Option.bind_eq_some_iff.mp hf
  refine x_rI b4 dX35_layBox_8 ?_
  refine w_istore dX35_layBox_9 (by decide) (ls' := [some (.ref this), some (.int p0), some (.long p1), none, some (.long p2), none, some (.int (1 : Int32)), some (.int x3), none, none, none, none, none, none, none, none, none, none, none, none, none]) rfl ?_
  exact (pX35_layBox_b11 hd hdr hsL N _ _ _ _ _ _ _ _ hf).to ⟨rfl, rfl, rfl, rfl, rfl, rfl, trivial⟩
