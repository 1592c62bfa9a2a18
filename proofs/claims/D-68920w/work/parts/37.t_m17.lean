set_option maxRecDepth 100000
set_option maxHeartbeats 4000000
theorem q483 : (Jvm.Cond.initialized "TypeHouseModel$Metrics") ∈ lw_all := lw_g (lw_at lw_m1 58 rfl) rfl
theorem q4916 : (Jvm.Cond.methodLink "TypeHouseModel$Metrics" (22 : Nat) ({ cls := "TypeHouseModel$Metrics", name := "half", desc := "([BI)I" } : Jvm.MethodName)) ∈ lw_all := lw_g (lw_at lw_m19 171 rfl) rfl
theorem q4917 : (Jvm.Cond.static ({ cls := "TypeHouseModel$Metrics", name := "half", desc := "([BI)I" } : Jvm.MethodName)) ∈ lw_all := lw_g (lw_at lw_m19 172 rfl) rfl
theorem q4918 : (Jvm.Cond.code ({ cls := "TypeHouseModel$Metrics", name := "half", desc := "([BI)I" } : Jvm.MethodName) prog_41_method_3_code (2 : Nat) (Option.some Jvm.ClassFile.FieldType.int)) ∈ lw_all := lw_g (lw_at lw_m19 173 rfl) rfl
theorem q4919 : (Jvm.Cond.methodLink "TypeHouseModel$Metrics" (26 : Nat) ({ cls := "TypeHouseModel$Metrics", name := "words", desc := "([BI)I" } : Jvm.MethodName)) ∈ lw_all := lw_g (lw_at lw_m19 174 rfl) rfl
theorem q4920 : (Jvm.Cond.static ({ cls := "TypeHouseModel$Metrics", name := "words", desc := "([BI)I" } : Jvm.MethodName)) ∈ lw_all := lw_g (lw_at lw_m19 175 rfl) rfl
theorem q4921 : (Jvm.Cond.code ({ cls := "TypeHouseModel$Metrics", name := "words", desc := "([BI)I" } : Jvm.MethodName) prog_41_method_4_code (2 : Nat) (Option.some Jvm.ClassFile.FieldType.int)) ∈ lw_all := lw_g (lw_at lw_m19 176 rfl) rfl
theorem q4922 : (Jvm.Cond.methodLink "TypeHouseModel$Metrics" (29 : Nat) ({ cls := "TypeHouseModel$Metrics", name := "start", desc := "([BI)I" } : Jvm.MethodName)) ∈ lw_all := lw_g (lw_at lw_m19 177 rfl) rfl
theorem q4923 : (Jvm.Cond.static ({ cls := "TypeHouseModel$Metrics", name := "start", desc := "([BI)I" } : Jvm.MethodName)) ∈ lw_all := lw_g (lw_at lw_m19 178 rfl) rfl
theorem q4924 : (Jvm.Cond.code ({ cls := "TypeHouseModel$Metrics", name := "start", desc := "([BI)I" } : Jvm.MethodName) prog_41_method_5_code (4 : Nat) (Option.some Jvm.ClassFile.FieldType.int)) ∈ lw_all := lw_g (lw_at lw_m19 179 rfl) rfl
theorem q4928 : (Jvm.Cond.methodLink "TypeHouseModel$Metrics" (32 : Nat) ({ cls := "TypeHouseModel$Metrics", name := "at", desc := "([BIII)I" } : Jvm.MethodName)) ∈ lw_all := lw_g (lw_at lw_m19 183 rfl) rfl
theorem q4929 : (Jvm.Cond.static ({ cls := "TypeHouseModel$Metrics", name := "at", desc := "([BIII)I" } : Jvm.MethodName)) ∈ lw_all := lw_g (lw_at lw_m19 184 rfl) rfl
theorem q4930 : (Jvm.Cond.code ({ cls := "TypeHouseModel$Metrics", name := "at", desc := "([BIII)I" } : Jvm.MethodName) prog_41_method_6_code (4 : Nat) (Option.some Jvm.ClassFile.FieldType.int)) ∈ lw_all := lw_g (lw_at lw_m19 185 rfl) rfl
theorem q4938 : (Jvm.Cond.methodLink "TypeHouseModel$Metrics" (42 : Nat) ({ cls := "TypeHouseModel$Metrics", name := "isThere", desc := "([BI)Z" } : Jvm.MethodName)) ∈ lw_all := lw_g (lw_at lw_m19 193 rfl) rfl
theorem q4939 : (Jvm.Cond.static ({ cls := "TypeHouseModel$Metrics", name := "isThere", desc := "([BI)Z" } : Jvm.MethodName)) ∈ lw_all := lw_g (lw_at lw_m19 194 rfl) rfl
theorem q4940 : (Jvm.Cond.code ({ cls := "TypeHouseModel$Metrics", name := "isThere", desc := "([BI)Z" } : Jvm.MethodName) prog_41_method_8_code (2 : Nat) (Option.some Jvm.ClassFile.FieldType.boolean)) ∈ lw_all := lw_g (lw_at lw_m19 195 rfl) rfl
theorem q4941 : (Jvm.Cond.methodLink "TypeHouseModel$Metrics" (46 : Nat) ({ cls := "TypeHouseModel$Metrics", name := "tag", desc := "([BI)I" } : Jvm.MethodName)) ∈ lw_all := lw_g (lw_at lw_m19 196 rfl) rfl
theorem q4942 : (Jvm.Cond.static ({ cls := "TypeHouseModel$Metrics", name := "tag", desc := "([BI)I" } : Jvm.MethodName)) ∈ lw_all := lw_g (lw_at lw_m19 197 rfl) rfl
theorem q4943 : (Jvm.Cond.code ({ cls := "TypeHouseModel$Metrics", name := "tag", desc := "([BI)I" } : Jvm.MethodName) prog_41_method_9_code (2 : Nat) (Option.some Jvm.ClassFile.FieldType.int)) ∈ lw_all := lw_g (lw_at lw_m19 198 rfl) rfl
theorem q4944 : (Jvm.Cond.methodLink "TypeHouseModel$Metrics" (39 : Nat) ({ cls := "TypeHouseModel$Metrics", name := "rest", desc := "([BI)I" } : Jvm.MethodName)) ∈ lw_all := lw_g (lw_at lw_m19 199 rfl) rfl
theorem q4945 : (Jvm.Cond.static ({ cls := "TypeHouseModel$Metrics", name := "rest", desc := "([BI)I" } : Jvm.MethodName)) ∈ lw_all := lw_g (lw_at lw_m19 200 rfl) rfl
theorem q4946 : (Jvm.Cond.code ({ cls := "TypeHouseModel$Metrics", name := "rest", desc := "([BI)I" } : Jvm.MethodName) prog_41_method_10_code (2 : Nat) (Option.some Jvm.ClassFile.FieldType.int)) ∈ lw_all := lw_g (lw_at lw_m19 201 rfl) rfl
theorem q4962 : (Jvm.Cond.methodLink "TypeHouseModel$Metrics" (36 : Nat) ({ cls := "TypeHouseModel$Metrics", name := "far", desc := "([BI)I" } : Jvm.MethodName)) ∈ lw_all := lw_g (lw_at lw_m19 217 rfl) rfl
theorem q4963 : (Jvm.Cond.static ({ cls := "TypeHouseModel$Metrics", name := "far", desc := "([BI)I" } : Jvm.MethodName)) ∈ lw_all := lw_g (lw_at lw_m19 218 rfl) rfl
theorem q4964 : (Jvm.Cond.code ({ cls := "TypeHouseModel$Metrics", name := "far", desc := "([BI)I" } : Jvm.MethodName) prog_41_method_7_code (2 : Nat) (Option.some Jvm.ClassFile.FieldType.int)) ∈ lw_all := lw_g (lw_at lw_m19 219 rfl) rfl
theorem q4965 : (Jvm.Cond.methodLink "TypeHouseModel$Metrics" (56 : Nat) ({ cls := "TypeHouseModel$Metrics", name := "edgeOf", desc := "([B)I" } : Jvm.MethodName)) ∈ lw_all := lw_g (lw_at lw_m19 220 rfl) rfl
theorem q4966 : (Jvm.Cond.static ({ cls := "TypeHouseModel$Metrics", name := "edgeOf", desc := "([B)I" } : Jvm.MethodName)) ∈ lw_all := lw_g (lw_at lw_m19 221 rfl) rfl
theorem q4967 : (Jvm.Cond.code ({ cls := "TypeHouseModel$Metrics", name := "edgeOf", desc := "([B)I" } : Jvm.MethodName) prog_41_method_11_code (1 : Nat) (Option.some Jvm.ClassFile.FieldType.int)) ∈ lw_all := lw_g (lw_at lw_m19 222 rfl) rfl
theorem q4976 : (Jvm.Cond.fieldLink "TypeHouseModel$Metrics" (9 : Nat) "TypeHouseModel$Metrics" "font" "[B") ∈ lw_all := lw_g (lw_at lw_m19 231 rfl) rfl
theorem q4977 : (Jvm.Cond.fieldLink "TypeHouseModel$Metrics" (15 : Nat) "TypeHouseModel$Metrics" "kinds" "[I") ∈ lw_all := lw_g (lw_at lw_m19 232 rfl) rfl
theorem q4979 : (Jvm.Cond.fieldLink "TypeHouseModel$Metrics" (19 : Nat) "TypeHouseModel$Metrics" "wide" "[I") ∈ lw_all := lw_g (lw_at lw_m19 234 rfl) rfl
theorem q4981 : (Jvm.Cond.fieldLink "TypeHouseModel$Metrics" (101 : Nat) "TypeHouseModel$Metrics" "count" "I") ∈ lw_all := lw_g (lw_at lw_m19 236 rfl) rfl
theorem q5081 : (Jvm.Cond.methodLink "TypeHouseModel" (456 : Nat) ({ cls := "TypeHouseModel", name := "get", desc := "()I" } : Jvm.MethodName)) ∈ lw_all := lw_g (lw_at lw_m20 96 rfl) rfl
theorem q5083 : (Jvm.Cond.instanceMethod ({ cls := "TypeHouseModel", name := "get", desc := "()I" } : Jvm.MethodName)) ∈ lw_all := lw_g (lw_at lw_m20 98 rfl) rfl
theorem q5084 : (Jvm.Cond.code ({ cls := "TypeHouseModel", name := "get", desc := "()I" } : Jvm.MethodName) prog_37_method_25_code (1 : Nat) (Option.some Jvm.ClassFile.FieldType.int)) ∈ lw_all := lw_g (lw_at lw_m20 99 rfl) rfl
theorem q5085 : (Jvm.Cond.methodLink "TypeHouseModel" (453 : Nat) ({ cls := "TypeHouseModel", name := "read", desc := "()I" } : Jvm.MethodName)) ∈ lw_all := lw_g (lw_at lw_m20 100 rfl) rfl
theorem q5087 : (Jvm.Cond.instanceMethod ({ cls := "TypeHouseModel", name := "read", desc := "()I" } : Jvm.MethodName)) ∈ lw_all := lw_g (lw_at lw_m20 102 rfl) rfl
theorem q5088 : (Jvm.Cond.code ({ cls := "TypeHouseModel", name := "read", desc := "()I" } : Jvm.MethodName) prog_37_method_24_code (3 : Nat) (Option.some Jvm.ClassFile.FieldType.int)) ∈ lw_all := lw_g (lw_at lw_m20 103 rfl) rfl
theorem q5089 : (Jvm.Cond.methodLink "TypeHouseModel" (444 : Nat) ({ cls := "TypeHouseModel", name := "beginLine", desc := "()Z" } : Jvm.MethodName)) ∈ lw_all := lw_g (lw_at lw_m20 104 rfl) rfl
theorem q5093 : (Jvm.Cond.methodLink "TypeHouseModel" (435 : Nat) ({ cls := "TypeHouseModel", name := "category", desc := "(I)I" } : Jvm.MethodName)) ∈ lw_all := lw_g (lw_at lw_m20 108 rfl) rfl
theorem q5095 : (Jvm.Cond.instanceMethod ({ cls := "TypeHouseModel", name := "category", desc := "(I)I" } : Jvm.MethodName)) ∈ lw_all := lw_g (lw_at lw_m20 110 rfl) rfl
theorem q5096 : (Jvm.Cond.code ({ cls := "TypeHouseModel", name := "category", desc := "(I)I" } : Jvm.MethodName) prog_37_method_21_code (2 : Nat) (Option.some Jvm.ClassFile.FieldType.int)) ∈ lw_all := lw_g (lw_at lw_m20 111 rfl) rfl
theorem q5101 : (Jvm.Cond.methodLink "TypeHouseModel" (448 : Nat) ({ cls := "TypeHouseModel", name := "readName", desc := "()I" } : Jvm.MethodName)) ∈ lw_all := lw_g (lw_at lw_m20 116 rfl) rfl
theorem q5103 : (Jvm.Cond.instanceMethod ({ cls := "TypeHouseModel", name := "readName", desc := "()I" } : Jvm.MethodName)) ∈ lw_all := lw_g (lw_at lw_m20 118 rfl) rfl
theorem q5104 : (Jvm.Cond.code ({ cls := "TypeHouseModel", name := "readName", desc := "()I" } : Jvm.MethodName) prog_37_method_23_code (1 : Nat) (Option.some Jvm.ClassFile.FieldType.int)) ∈ lw_all := lw_g (lw_at lw_m20 119 rfl) rfl
theorem q5105 : (Jvm.Cond.methodLink "TypeHouseModel" (438 : Nat) ({ cls := "TypeHouseModel", name := "spell", desc := "(I)V" } : Jvm.MethodName)) ∈ lw_all := lw_g (lw_at lw_m20 120 rfl) rfl
theorem q5107 : (Jvm.Cond.instanceMethod ({ cls := "TypeHouseModel", name := "spell", desc := "(I)V" } : Jvm.MethodName)) ∈ lw_all := lw_g (lw_at lw_m20 122 rfl) rfl
theorem q5108 : (Jvm.Cond.code ({ cls := "TypeHouseModel", name := "spell", desc := "(I)V" } : Jvm.MethodName) prog_37_method_20_code (2 : Nat) (Option.none : Option Jvm.ClassFile.FieldType)) ∈ lw_all := lw_g (lw_at lw_m20 123 rfl) rfl
theorem q5113 : (Jvm.Cond.methodLink "TypeHouseModel" (441 : Nat) ({ cls := "TypeHouseModel", name := "nameToken", desc := "()I" } : Jvm.MethodName)) ∈ lw_all := lw_g (lw_at lw_m20 128 rfl) rfl
theorem q5115 : (Jvm.Cond.instanceMethod ({ cls := "TypeHouseModel", name := "nameToken", desc := "()I" } : Jvm.MethodName)) ∈ lw_all := lw_g (lw_at lw_m20 130 rfl) rfl
theorem q5116 : (Jvm.Cond.code ({ cls := "TypeHouseModel", name := "nameToken", desc := "()I" } : Jvm.MethodName) prog_37_method_19_code (4 : Nat) (Option.some Jvm.ClassFile.FieldType.int)) ∈ lw_all := lw_g (lw_at lw_m20 131 rfl) rfl
theorem q5117 : (Jvm.Cond.constant "TypeHouseModel" (451 : Nat) (65559 : Int32)) ∈ lw_all := lw_g (lw_at lw_m20 132 rfl) rfl
theorem q5118 : (Jvm.Cond.constant "TypeHouseModel" (452 : Nat) (131072 : Int32)) ∈ lw_all := lw_g (lw_at lw_m20 133 rfl) rfl
theorem q5123 : (Jvm.Cond.methodLink "TypeHouseModel" (467 : Nat) ({ cls := "TypeHouseModel", name := "isMarked", desc := "(I)Z" } : Jvm.MethodName)) ∈ lw_all := lw_g (lw_at lw_m20 138 rfl) rfl
theorem q5124 : (Jvm.Cond.static ({ cls := "TypeHouseModel", name := "isMarked", desc := "(I)Z" } : Jvm.MethodName)) ∈ lw_all := lw_g (lw_at lw_m20 139 rfl) rfl
theorem q5125 : (Jvm.Cond.code ({ cls := "TypeHouseModel", name := "isMarked", desc := "(I)Z" } : Jvm.MethodName) prog_37_method_31_code (1 : Nat) (Option.some Jvm.ClassFile.FieldType.boolean)) ∈ lw_all := lw_g (lw_at lw_m20 140 rfl) rfl
theorem q5130 : (Jvm.Cond.methodLink "TypeHouseModel" (474 : Nat) ({ cls := "TypeHouseModel", name := "meaning", desc := "(I)I" } : Jvm.MethodName)) ∈ lw_all := lw_g (lw_at lw_m20 145 rfl) rfl
theorem q5132 : (Jvm.Cond.instanceMethod ({ cls := "TypeHouseModel", name := "meaning", desc := "(I)I" } : Jvm.MethodName)) ∈ lw_all := lw_g (lw_at lw_m20 147 rfl) rfl
theorem q5133 : (Jvm.Cond.code ({ cls := "TypeHouseModel", name := "meaning", desc := "(I)I" } : Jvm.MethodName) prog_37_method_34_code (2 : Nat) (Option.some Jvm.ClassFile.FieldType.int)) ∈ lw_all := lw_g (lw_at lw_m20 148 rfl) rfl
theorem q5134 : (Jvm.Cond.constant "TypeHouseModel" (470 : Nat) (2000000 : Int32)) ∈ lw_all := lw_g (lw_at lw_m20 149 rfl) rfl
theorem q5135 : (Jvm.Cond.methodLink "TypeHouseModel" (471 : Nat) ({ cls := "TypeHouseModel", name := "idOf", desc := "(I)I" } : Jvm.MethodName)) ∈ lw_all := lw_g (lw_at lw_m20 150 rfl) rfl
theorem q5137 : (Jvm.Cond.instanceMethod ({ cls := "TypeHouseModel", name := "idOf", desc := "(I)I" } : Jvm.MethodName)) ∈ lw_all := lw_g (lw_at lw_m20 152 rfl) rfl
theorem q5138 : (Jvm.Cond.code ({ cls := "TypeHouseModel", name := "idOf", desc := "(I)I" } : Jvm.MethodName) prog_37_method_33_code (3 : Nat) (Option.some Jvm.ClassFile.FieldType.int)) ∈ lw_all := lw_g (lw_at lw_m20 153 rfl) rfl
theorem q5139 : (Jvm.Cond.methodLink "TypeHouseModel" (464 : Nat) ({ cls := "TypeHouseModel", name := "bare", desc := "(I)I" } : Jvm.MethodName)) ∈ lw_all := lw_g (lw_at lw_m20 154 rfl) rfl
theorem q5152 : (Jvm.Cond.instanceMethod ({ cls := "TypeHouseModel", name := "call", desc := "(I)V" } : Jvm.MethodName)) ∈ lw_all := lw_g (lw_at lw_m20 167 rfl) rfl
theorem q5153 : (Jvm.Cond.code ({ cls := "TypeHouseModel", name := "call", desc := "(I)V" } : Jvm.MethodName) prog_37_method_52_code (6 : Nat) (Option.none : Option Jvm.ClassFile.FieldType)) ∈ lw_all := lw_g (lw_at lw_m20 168 rfl) rfl
theorem q5154 : (Jvm.Cond.methodLink "TypeHouseModel" (506 : Nat) ({ cls := "TypeHouseModel", name := "need", desc := "()I" } : Jvm.MethodName)) ∈ lw_all := lw_g (lw_at lw_m20 169 rfl) rfl
theorem q5156 : (Jvm.Cond.instanceMethod ({ cls := "TypeHouseModel", name := "need", desc := "()I" } : Jvm.MethodName)) ∈ lw_all := lw_g (lw_at lw_m20 171 rfl) rfl
theorem q5157 : (Jvm.Cond.code ({ cls := "TypeHouseModel", name := "need", desc := "()I" } : Jvm.MethodName) prog_37_method_26_code (2 : Nat) (Option.some Jvm.ClassFile.FieldType.int)) ∈ lw_all := lw_g (lw_at lw_m20 172 rfl) rfl
theorem q5158 : (Jvm.Cond.methodLink "TypeHouseModel" (568 : Nat) ({ cls := "TypeHouseModel", name := "isSame", desc := "(II)Z" } : Jvm.MethodName)) ∈ lw_all := lw_g (lw_at lw_m20 173 rfl) rfl
theorem q5160 : (Jvm.Cond.instanceMethod ({ cls := "TypeHouseModel", name := "isSame", desc := "(II)Z" } : Jvm.MethodName)) ∈ lw_all := lw_g (lw_at lw_m20 175 rfl) rfl
theorem q5161 : (Jvm.Cond.code ({ cls := "TypeHouseModel", name := "isSame", desc := "(II)Z" } : Jvm.MethodName) prog_37_method_51_code (3 : Nat) (Option.some Jvm.ClassFile.FieldType.boolean)) ∈ lw_all := lw_g (lw_at lw_m20 176 rfl) rfl
theorem q5162 : (Jvm.Cond.methodLink "TypeHouseModel" (571 : Nat) ({ cls := "TypeHouseModel", name := "takeOne", desc := "(I)V" } : Jvm.MethodName)) ∈ lw_all := lw_g (lw_at lw_m20 177 rfl) rfl
theorem q5164 : (Jvm.Cond.instanceMethod ({ cls := "TypeHouseModel", name := "takeOne", desc := "(I)V" } : Jvm.MethodName)) ∈ lw_all := lw_g (lw_at lw_m20 179 rfl) rfl
theorem q5165 : (Jvm.Cond.code ({ cls := "TypeHouseModel", name := "takeOne", desc := "(I)V" } : Jvm.MethodName) prog_37_method_54_code (6 : Nat) (Option.none : Option Jvm.ClassFile.FieldType)) ∈ lw_all := lw_g (lw_at lw_m20 180 rfl) rfl
theorem q5169 : (Jvm.Cond.methodLink "TypeHouseModel" (574 : Nat) ({ cls := "TypeHouseModel", name := "takeUpTo", desc := "(III)V" } : Jvm.MethodName)) ∈ lw_all := lw_g (lw_at lw_m20 184 rfl) rfl
theorem q5171 : (Jvm.Cond.instanceMethod ({ cls := "TypeHouseModel", name := "takeUpTo", desc := "(III)V" } : Jvm.MethodName)) ∈ lw_all := lw_g (lw_at lw_m20 186 rfl) rfl
theorem q5172 : (Jvm.Cond.code ({ cls := "TypeHouseModel", name := "takeUpTo", desc := "(III)V" } : Jvm.MethodName) prog_37_method_55_code (10 : Nat) (Option.none : Option Jvm.ClassFile.FieldType)) ∈ lw_all := lw_g (lw_at lw_m20 187 rfl) rfl
theorem q5173 : (Jvm.Cond.methodLink "TypeHouseModel" (581 : Nat) ({ cls := "TypeHouseModel", name := "bareOf", desc := "(I)V" } : Jvm.MethodName)) ∈ lw_all := lw_g (lw_at lw_m20 188 rfl) rfl
theorem q5177 : (Jvm.Cond.methodLink "TypeHouseModel" (578 : Nat) ({ cls := "TypeHouseModel", name := "putOfBody", desc := "(I)V" } : Jvm.MethodName)) ∈ lw_all := lw_g (lw_at lw_m20 192 rfl) rfl
theorem q5179 : (Jvm.Cond.instanceMethod ({ cls := "TypeHouseModel", name := "putOfBody", desc := "(I)V" } : Jvm.MethodName)) ∈ lw_all := lw_g (lw_at lw_m20 194 rfl) rfl
theorem q5180 : (Jvm.Cond.code ({ cls := "TypeHouseModel", name := "putOfBody", desc := "(I)V" } : Jvm.MethodName) prog_37_method_53_code (2 : Nat) (Option.none : Option Jvm.ClassFile.FieldType)) ∈ lw_all := lw_g (lw_at lw_m20 195 rfl) rfl
theorem q5181 : (Jvm.Cond.methodLink "TypeHouseModel" (509 : Nat) ({ cls := "TypeHouseModel", name := "put", desc := "(I)V" } : Jvm.MethodName)) ∈ lw_all := lw_g (lw_at lw_m20 196 rfl) rfl
theorem q5183 : (Jvm.Cond.instanceMethod ({ cls := "TypeHouseModel", name := "put", desc := "(I)V" } : Jvm.MethodName)) ∈ lw_all := lw_g (lw_at lw_m20 198 rfl) rfl
theorem q5184 : (Jvm.Cond.code ({ cls := "TypeHouseModel", name := "put", desc := "(I)V" } : Jvm.MethodName) prog_37_method_27_code (2 : Nat) (Option.none : Option Jvm.ClassFile.FieldType)) ∈ lw_all := lw_g (lw_at lw_m20 199 rfl) rfl
theorem q5197 : (Jvm.Cond.methodLink "TypeHouseModel" (554 : Nat) ({ cls := "TypeHouseModel", name := "means", desc := "(II)Z" } : Jvm.MethodName)) ∈ lw_all := lw_g (lw_at lw_m20 212 rfl) rfl
theorem q5199 : (Jvm.Cond.instanceMethod ({ cls := "TypeHouseModel", name := "means", desc := "(II)Z" } : Jvm.MethodName)) ∈ lw_all := lw_g (lw_at lw_m20 214 rfl) rfl
theorem q5200 : (Jvm.Cond.code ({ cls := "TypeHouseModel", name := "means", desc := "(II)Z" } : Jvm.MethodName) prog_37_method_35_code (3 : Nat) (Option.some Jvm.ClassFile.FieldType.boolean)) ∈ lw_all := lw_g (lw_at lw_m20 215 rfl) rfl
theorem q5318 : (Jvm.Cond.instanceMethod ({ cls := "TypeHouseModel", name := "branch", desc := "(II)V" } : Jvm.MethodName)) ∈ lw_all := lw_g (lw_at lw_m21 93 rfl) rfl
theorem q5319 : (Jvm.Cond.code ({ cls := "TypeHouseModel", name := "branch", desc := "(II)V" } : Jvm.MethodName) prog_37_method_64_code (6 : Nat) (Option.none : Option Jvm.ClassFile.FieldType)) ∈ lw_all := lw_g (lw_at lw_m21 94 rfl) rfl
theorem q5320 : (Jvm.Cond.constant "TypeHouseModel" (620 : Nat) (589846 : Int32)) ∈ lw_all := lw_g (lw_at lw_m21 95 rfl) rfl
theorem q5321 : (Jvm.Cond.methodLink "TypeHouseModel" (617 : Nat) ({ cls := "TypeHouseModel", name := "isCondition", desc := "(I)Z" } : Jvm.MethodName)) ∈ lw_all := lw_g (lw_at lw_m21 96 rfl) rfl
theorem q5323 : (Jvm.Cond.instanceMethod ({ cls := "TypeHouseModel", name := "isCondition", desc := "(I)Z" } : Jvm.MethodName)) ∈ lw_all := lw_g (lw_at lw_m21 98 rfl) rfl
theorem q5324 : (Jvm.Cond.code ({ cls := "TypeHouseModel", name := "isCondition", desc := "(I)Z" } : Jvm.MethodName) prog_37_method_62_code (3 : Nat) (Option.some Jvm.ClassFile.FieldType.boolean)) ∈ lw_all := lw_g (lw_at lw_m21 99 rfl) rfl
theorem q5397 : (Jvm.Cond.instanceMethod ({ cls := "TypeHouseModel$Metrics", name := "scaled", desc := "(III)I" } : Jvm.MethodName)) ∈ lw_all := lw_g (lw_at lw_m21 172 rfl) rfl
theorem q5398 : (Jvm.Cond.code ({ cls := "TypeHouseModel$Metrics", name := "scaled", desc := "(III)I" } : Jvm.MethodName) prog_41_method_27_code (11 : Nat) (Option.some Jvm.ClassFile.FieldType.int)) ∈ lw_all := lw_g (lw_at lw_m21 173 rfl) rfl
theorem q5399 : (Jvm.Cond.constantLong "TypeHouseModel$Metrics" (86 : Nat) (8388608 : Int64)) ∈ lw_all := lw_g (lw_at lw_m21 174 rfl) rfl
theorem q5400 : (Jvm.Cond.constantLong "TypeHouseModel$Metrics" (88 : Nat) (2 : Int64)) ∈ lw_all := lw_g (lw_at lw_m21 175 rfl) rfl
theorem q5401 : (Jvm.Cond.constantLong "TypeHouseModel$Metrics" (90 : Nat) (65536 : Int64)) ∈ lw_all := lw_g (lw_at lw_m21 176 rfl) rfl
theorem q5402 : (Jvm.Cond.constantLong "TypeHouseModel$Metrics" (92 : Nat) (256 : Int64)) ∈ lw_all := lw_g (lw_at lw_m21 177 rfl) rfl
theorem q5449 : (Jvm.Cond.methodLink "TypeHouseModel" (810 : Nat) ({ cls := "TypeHouseModel", name := "isVertical", desc := "()Z" } : Jvm.MethodName)) ∈ lw_all := lw_g (lw_at lw_m21 224 rfl) rfl
theorem q5455 : (Jvm.Cond.instanceMethod ({ cls := "TypeHouseModel", name := "beginParagraph", desc := "(Z)V" } : Jvm.MethodName)) ∈ lw_all := lw_g (lw_at lw_m21 230 rfl) rfl
theorem q5456 : (Jvm.Cond.code ({ cls := "TypeHouseModel", name := "beginParagraph", desc := "(Z)V" } : Jvm.MethodName) prog_37_method_122_code (3 : Nat) (Option.none : Option Jvm.ClassFile.FieldType)) ∈ lw_all := lw_g (lw_at lw_m21 231 rfl) rfl
theorem q5457 : (Jvm.Cond.methodLink "TypeHouseModel" (813 : Nat) ({ cls := "TypeHouseModel", name := "glueOf", desc := "(I)V" } : Jvm.MethodName)) ∈ lw_all := lw_g (lw_at lw_m21 232 rfl) rfl
theorem q5650 : (Jvm.Cond.methodLink "TypeHouseModel" (876 : Nat) ({ cls := "TypeHouseModel", name := "openList", desc := "(I)V" } : Jvm.MethodName)) ∈ lw_all := lw_g (lw_at lw_m22 185 rfl) rfl
theorem q5654 : (Jvm.Cond.methodLink "TypeHouseModel" (879 : Nat) ({ cls := "TypeHouseModel", name := "pack", desc := "([IIIZII)I" } : Jvm.MethodName)) ∈ lw_all := lw_g (lw_at lw_m22 189 rfl) rfl
theorem q5663 : (Jvm.Cond.methodLink "TypeHouseModel" (883 : Nat) ({ cls := "TypeHouseModel", name := "boxItem", desc := "(II)V" } : Jvm.MethodName)) ∈ lw_all := lw_g (lw_at lw_m22 198 rfl) rfl
theorem q5665 : (Jvm.Cond.instanceMethod ({ cls := "TypeHouseModel", name := "boxItem", desc := "(II)V" } : Jvm.MethodName)) ∈ lw_all := lw_g (lw_at lw_m22 200 rfl) rfl
theorem q5666 : (Jvm.Cond.code ({ cls := "TypeHouseModel", name := "boxItem", desc := "(II)V" } : Jvm.MethodName) prog_37_method_113_code (7 : Nat) (Option.none : Option Jvm.ClassFile.FieldType)) ∈ lw_all := lw_g (lw_at lw_m22 201 rfl) rfl
theorem q5669 : (Jvm.Cond.instanceMethod ({ cls := "TypeHouseModel", name := "metrics", desc := "(I)LTypeHouseModel$Metrics;" } : Jvm.MethodName)) ∈ lw_all := lw_g (lw_at lw_m22 204 rfl) rfl
theorem q5670 : (Jvm.Cond.code ({ cls := "TypeHouseModel", name := "metrics", desc := "(I)LTypeHouseModel$Metrics;" } : Jvm.MethodName) prog_37_method_115_code (2 : Nat) (Option.some (Jvm.ClassFile.FieldType.object "TypeHouseModel$Metrics"))) ∈ lw_all := lw_g (lw_at lw_m22 205 rfl) rfl
theorem q5672 : (Jvm.Cond.instanceMethod ({ cls := "TypeHouseModel$Metrics", name := "isThere", desc := "(I)Z" } : Jvm.MethodName)) ∈ lw_all := lw_g (lw_at lw_m22 207 rfl) rfl
theorem q5673 : (Jvm.Cond.selects "TypeHouseModel$Metrics" ({ cls := "TypeHouseModel$Metrics", name := "isThere", desc := "(I)Z" } : Jvm.MethodName) ({ cls := "TypeHouseModel$Metrics", name := "isThere", desc := "(I)Z" } : Jvm.MethodName)) ∈ lw_all := lw_g (lw_at lw_m22 208 rfl) rfl
theorem q5674 : (Jvm.Cond.code ({ cls := "TypeHouseModel$Metrics", name := "isThere", desc := "(I)Z" } : Jvm.MethodName) prog_41_method_24_code (2 : Nat) (Option.some Jvm.ClassFile.FieldType.boolean)) ∈ lw_all := lw_g (lw_at lw_m22 209 rfl) rfl
theorem q5683 : (Jvm.Cond.methodLink "TypeHouseModel$Metrics" (98 : Nat) ({ cls := "TypeHouseModel$Metrics", name := "edgeProgram", desc := "([B)I" } : Jvm.MethodName)) ∈ lw_all := lw_g (lw_at lw_m22 218 rfl) rfl
theorem q5684 : (Jvm.Cond.static ({ cls := "TypeHouseModel$Metrics", name := "edgeProgram", desc := "([B)I" } : Jvm.MethodName)) ∈ lw_all := lw_g (lw_at lw_m22 219 rfl) rfl
theorem q5685 : (Jvm.Cond.code ({ cls := "TypeHouseModel$Metrics", name := "edgeProgram", desc := "([B)I" } : Jvm.MethodName) prog_41_method_12_code (2 : Nat) (Option.some Jvm.ClassFile.FieldType.int)) ∈ lw_all := lw_g (lw_at lw_m22 220 rfl) rfl
theorem q5688 : (Jvm.Cond.instanceMethod ({ cls := "TypeHouseModel$Metrics", name := "insert", desc := "(III)V" } : Jvm.MethodName)) ∈ lw_all := lw_g (lw_at lw_m22 223 rfl) rfl
theorem q5689 : (Jvm.Cond.code ({ cls := "TypeHouseModel$Metrics", name := "insert", desc := "(III)V" } : Jvm.MethodName) prog_41_method_31_code (5 : Nat) (Option.none : Option Jvm.ClassFile.FieldType)) ∈ lw_all := lw_g (lw_at lw_m22 224 rfl) rfl
theorem q5696 : (Jvm.Cond.instanceMethod ({ cls := "TypeHouseModel$Metrics", name := "found", desc := "(II)I" } : Jvm.MethodName)) ∈ lw_all := lw_g (lw_at lw_m22 231 rfl) rfl
theorem q5697 : (Jvm.Cond.code ({ cls := "TypeHouseModel$Metrics", name := "found", desc := "(II)I" } : Jvm.MethodName) prog_41_method_30_code (5 : Nat) (Option.some Jvm.ClassFile.FieldType.int)) ∈ lw_all := lw_g (lw_at lw_m22 232 rfl) rfl
abbrev cX35_boxItem : ByteArray := prog_37_method_113_code
def yX35_boxItem : MethodName := ⟨RX35, "boxItem", "(II)V"⟩
def YX35_boxItem : eY := (yX35_boxItem, cX35_boxItem, 7, none, [])
theorem mX35_boxItem : e_mv YX35_boxItem RX35 2 := ⟨q5665, qs351, q5666, by decide, by decide +kernel, (e_sig (by decide +kernel))⟩
theorem dX35_boxItem_0 : decode cX35_boxItem 0 = .ok (.aload_n 0, 1) := dc_42 (by decide +kernel)
theorem dX35_boxItem_1 : decode cX35_boxItem 1 = .ok (.invokevirtual 810, 3) := dc_182 (a := 3) (b := 42) (n := 810) (by decide +kernel)
theorem dX35_boxItem_4 : decode cX35_boxItem 4 = .ok (.ifCond .ne 14, 3) := dc_154 (a := 0) (b := 14) (v := 14) (by decide +kernel)
theorem dX35_boxItem_7 : decode cX35_boxItem 7 = .ok (.aload_n 0, 1) := dc_42 (by decide +kernel)
theorem dX35_boxItem_8 : decode cX35_boxItem 8 = .ok (.iconst 5, 1) := dc_8 (by decide +kernel)
theorem dX35_boxItem_9 : decode cX35_boxItem 9 = .ok (.iload_n 1, 1) := dc_27 (by decide +kernel)
theorem dX35_boxItem_10 : decode cX35_boxItem 10 = .ok (.iload_n 2, 1) := dc_28 (by decide +kernel)
theorem dX35_boxItem_11 : decode cX35_boxItem 11 = .ok (.iconst 0, 1) := dc_3 (by decide +kernel)
theorem dX35_boxItem_12 : decode cX35_boxItem 12 = .ok (.iconst 0, 1) := dc_3 (by decide +kernel)
theorem dX35_boxItem_13 : decode cX35_boxItem 13 = .ok (.iconst 0, 1) := dc_3 (by decide +kernel)
theorem dX35_boxItem_14 : decode cX35_boxItem 14 = .ok (.invokevirtual 798, 3) := dc_182 (a := 3) (b := 30) (n := 798) (by decide +kernel)
theorem dX35_boxItem_17 : decode cX35_boxItem 17 = .ok (.return_, 1) := dc_177 (by decide +kernel)
theorem dX35_boxItem_18 : decode cX35_boxItem 18 = .ok (.aload_n 0, 1) := dc_42 (by decide +kernel)
theorem dX35_boxItem_19 : decode cX35_boxItem 19 = .ok (.getfield 366, 3) := dc_180 (a := 1) (b := 110) (n := 366) (by decide +kernel)
theorem dX35_boxItem_22 : decode cX35_boxItem 22 = .ok (.iconst 1, 1) := dc_4 (by decide +kernel)
theorem dX35_boxItem_23 : decode cX35_boxItem 23 = .ok (.isub, 1) := dc_100 (by decide +kernel)
theorem dX35_boxItem_24 : decode cX35_boxItem 24 = .ok (.istore_n 3, 1) := dc_62 (by decide +kernel)
theorem dX35_boxItem_25 : decode cX35_boxItem 25 = .ok (.aload_n 0, 1) := dc_42 (by decide +kernel)
theorem dX35_boxItem_26 : decode cX35_boxItem 26 = .ok (.getfield 133, 3) := dc_180 (a := 0) (b := 133) (n := 133) (by decide +kernel)
theorem dX35_boxItem_29 : decode cX35_boxItem 29 = .ok (.iload_n 3, 1) := dc_29 (by decide +kernel)
theorem dX35_boxItem_30 : decode cX35_boxItem 30 = .ok (.iaload, 1) := dc_46 (by decide +kernel)
theorem dX35_boxItem_31 : decode cX35_boxItem 31 = .ok (.ldc_w 369, 3) := dc_19 (a := 1) (b := 113) (n := 369) (by decide +kernel)
theorem dX35_boxItem_34 : decode cX35_boxItem 34 = .ok (.if_icmp .eq 105, 3) := dc_159 (a := 0) (b := 105) (v := 105) (by decide +kernel)
theorem dX35_boxItem_37 : decode cX35_boxItem 37 = .ok (.sipush 3275, 3) := dc_17 (a := 12) (b := 203) (v := 3275) (by decide +kernel)
theorem dX35_boxItem_40 : decode cX35_boxItem 40 = .ok (.istore 4, 2) := dc_54 (a := 4) (by decide +kernel)
theorem dX35_boxItem_42 : decode cX35_boxItem 42 = .ok (.aload_n 0, 1) := dc_42 (by decide +kernel)
theorem dX35_boxItem_43 : decode cX35_boxItem 43 = .ok (.iload 4, 2) := dc_21 (a := 4) (by decide +kernel)
theorem dX35_boxItem_45 : decode cX35_boxItem 45 = .ok (.invokevirtual 431, 3) := dc_182 (a := 1) (b := 175) (n := 431) (by decide +kernel)
theorem dX35_boxItem_48 : decode cX35_boxItem 48 = .ok (.i2l, 1) := dc_133 (by decide +kernel)
theorem dX35_boxItem_49 : decode cX35_boxItem 49 = .ok (.aload_n 0, 1) := dc_42 (by decide +kernel)
theorem dX35_boxItem_50 : decode cX35_boxItem 50 = .ok (.getfield 133, 3) := dc_180 (a := 0) (b := 133) (n := 133) (by decide +kernel)
theorem dX35_boxItem_53 : decode cX35_boxItem 53 = .ok (.iload_n 3, 1) := dc_29 (by decide +kernel)
theorem dX35_boxItem_54 : decode cX35_boxItem 54 = .ok (.iaload, 1) := dc_46 (by decide +kernel)
theorem dX35_boxItem_55 : decode cX35_boxItem 55 = .ok (.i2l, 1) := dc_133 (by decide +kernel)
theorem dX35_boxItem_56 : decode cX35_boxItem 56 = .ok (.lsub, 1) := dc_101 (by decide +kernel)
theorem dX35_boxItem_57 : decode cX35_boxItem 57 = .ok (.aload_n 0, 1) := dc_42 (by decide +kernel)
theorem dX35_boxItem_58 : decode cX35_boxItem 58 = .ok (.getfield 160, 3) := dc_180 (a := 0) (b := 160) (n := 160) (by decide +kernel)
theorem dX35_boxItem_61 : decode cX35_boxItem 61 = .ok (.iload_n 1, 1) := dc_27 (by decide +kernel)
theorem dX35_boxItem_62 : decode cX35_boxItem 62 = .ok (.iaload, 1) := dc_46 (by decide +kernel)
theorem dX35_boxItem_63 : decode cX35_boxItem 63 = .ok (.i2l, 1) := dc_133 (by decide +kernel)
theorem dX35_boxItem_64 : decode cX35_boxItem 64 = .ok (.lsub, 1) := dc_101 (by decide +kernel)
theorem dX35_boxItem_65 : decode cX35_boxItem 65 = .ok (.lstore 5, 2) := dc_55 (a := 5) (by decide +kernel)
theorem dX35_boxItem_67 : decode cX35_boxItem 67 = .ok (.lload 5, 2) := dc_22 (a := 5) (by decide +kernel)
theorem dX35_boxItem_69 : decode cX35_boxItem 69 = .ok (.invokestatic 740, 3) := dc_184 (a := 2) (b := 228) (n := 740) (by decide +kernel)
theorem dX35_boxItem_72 : decode cX35_boxItem 72 = .ok (.ifCond .ne 12, 3) := dc_154 (a := 0) (b := 12) (v := 12) (by decide +kernel)
theorem dX35_boxItem_75 : decode cX35_boxItem 75 = .ok (.aload_n 0, 1) := dc_42 (by decide +kernel)
theorem dX35_boxItem_76 : decode cX35_boxItem 76 = .ok (.bipush 16, 2) := dc_16 (a := 16) (v := 16) (by decide +kernel)
theorem dX35_boxItem_78 : decode cX35_boxItem 78 = .ok (.invokevirtual 428, 3) := dc_182 (a := 1) (b := 172) (n := 428) (by decide +kernel)
theorem dX35_boxItem_81 : decode cX35_boxItem 81 = .ok (.goto 58, 3) := dc_167 (a := 0) (b := 58) (v := 58) (by decide +kernel)
theorem dX35_boxItem_84 : decode cX35_boxItem 84 = .ok (.lload 5, 2) := dc_22 (a := 5) (by decide +kernel)
theorem dX35_boxItem_86 : decode cX35_boxItem 86 = .ok (.aload_n 0, 1) := dc_42 (by decide +kernel)
theorem dX35_boxItem_87 : decode cX35_boxItem 87 = .ok (.sipush 2244, 3) := dc_17 (a := 8) (b := 196) (v := 2244) (by decide +kernel)
theorem dX35_boxItem_90 : decode cX35_boxItem 90 = .ok (.invokevirtual 431, 3) := dc_182 (a := 1) (b := 175) (n := 431) (by decide +kernel)
theorem dX35_boxItem_93 : decode cX35_boxItem 93 = .ok (.i2l, 1) := dc_133 (by decide +kernel)
theorem dX35_boxItem_94 : decode cX35_boxItem 94 = .ok (.lcmp, 1) := dc_148 (by decide +kernel)
theorem dX35_boxItem_95 : decode cX35_boxItem 95 = .ok (.ifCond .ge 13, 3) := dc_156 (a := 0) (b := 13) (v := 13) (by decide +kernel)
theorem dX35_boxItem_98 : decode cX35_boxItem 98 = .ok (.aload_n 0, 1) := dc_42 (by decide +kernel)
theorem dX35_boxItem_99 : decode cX35_boxItem 99 = .ok (.sipush 258, 3) := dc_17 (a := 1) (b := 2) (v := 258) (by decide +kernel)
theorem dX35_boxItem_102 : decode cX35_boxItem 102 = .ok (.invokevirtual 813, 3) := dc_182 (a := 3) (b := 45) (n := 813) (by decide +kernel)
theorem dX35_boxItem_105 : decode cX35_boxItem 105 = .ok (.goto 34, 3) := dc_167 (a := 0) (b := 34) (v := 34) (by decide +kernel)
theorem dX35_boxItem_108 : decode cX35_boxItem 108 = .ok (.aload_n 0, 1) := dc_42 (by decide +kernel)
theorem dX35_boxItem_109 : decode cX35_boxItem 109 = .ok (.lload 5, 2) := dc_22 (a := 5) (by decide +kernel)
theorem dX35_boxItem_111 : decode cX35_boxItem 111 = .ok (.l2i, 1) := dc_136 (by decide +kernel)
theorem dX35_boxItem_112 : decode cX35_boxItem 112 = .ok (.aload_n 0, 1) := dc_42 (by decide +kernel)
theorem dX35_boxItem_113 : decode cX35_boxItem 113 = .ok (.iload 4, 2) := dc_21 (a := 4) (by decide +kernel)
theorem dX35_boxItem_115 : decode cX35_boxItem 115 = .ok (.iconst 1, 1) := dc_4 (by decide +kernel)
theorem dX35_boxItem_116 : decode cX35_boxItem 116 = .ok (.iadd, 1) := dc_96 (by decide +kernel)
theorem dX35_boxItem_117 : decode cX35_boxItem 117 = .ok (.invokevirtual 431, 3) := dc_182 (a := 1) (b := 175) (n := 431) (by decide +kernel)
theorem dX35_boxItem_120 : decode cX35_boxItem 120 = .ok (.aload_n 0, 1) := dc_42 (by decide +kernel)
theorem dX35_boxItem_121 : decode cX35_boxItem 121 = .ok (.iload 4, 2) := dc_21 (a := 4) (by decide +kernel)
theorem dX35_boxItem_123 : decode cX35_boxItem 123 = .ok (.iconst 2, 1) := dc_5 (by decide +kernel)
theorem dX35_boxItem_124 : decode cX35_boxItem 124 = .ok (.iadd, 1) := dc_96 (by decide +kernel)
theorem dX35_boxItem_125 : decode cX35_boxItem 125 = .ok (.invokevirtual 431, 3) := dc_182 (a := 1) (b := 175) (n := 431) (by decide +kernel)
theorem dX35_boxItem_128 : decode cX35_boxItem 128 = .ok (.aload_n 0, 1) := dc_42 (by decide +kernel)
theorem dX35_boxItem_129 : decode cX35_boxItem 129 = .ok (.iload 4, 2) := dc_21 (a := 4) (by decide +kernel)
theorem dX35_boxItem_131 : decode cX35_boxItem 131 = .ok (.iconst 3, 1) := dc_6 (by decide +kernel)
theorem dX35_boxItem_132 : decode cX35_boxItem 132 = .ok (.iadd, 1) := dc_96 (by decide +kernel)
theorem dX35_boxItem_133 : decode cX35_boxItem 133 = .ok (.invokevirtual 431, 3) := dc_182 (a := 1) (b := 175) (n := 431) (by decide +kernel)
theorem dX35_boxItem_136 : decode cX35_boxItem 136 = .ok (.invokevirtual 802, 3) := dc_182 (a := 3) (b := 34) (n := 802) (by decide +kernel)
theorem dX35_boxItem_139 : decode cX35_boxItem 139 = .ok (.aload_n 0, 1) := dc_42 (by decide +kernel)
theorem dX35_boxItem_140 : decode cX35_boxItem 140 = .ok (.getfield 321, 3) := dc_180 (a := 1) (b := 65) (n := 321) (by decide +kernel)
theorem dX35_boxItem_143 : decode cX35_boxItem 143 = .ok (.ifCond .le 4, 3) := dc_158 (a := 0) (b := 4) (v := 4) (by decide +kernel)
theorem dX35_boxItem_146 : decode cX35_boxItem 146 = .ok (.return_, 1) := dc_177 (by decide +kernel)
theorem dX35_boxItem_147 : decode cX35_boxItem 147 = .ok (.aload_n 0, 1) := dc_42 (by decide +kernel)
theorem dX35_boxItem_148 : decode cX35_boxItem 148 = .ok (.invokevirtual 587, 3) := dc_182 (a := 2) (b := 75) (n := 587) (by decide +kernel)
theorem dX35_boxItem_151 : decode cX35_boxItem 151 = .ok (.ifCond .ne 27, 3) := dc_154 (a := 0) (b := 27) (v := 27) (by decide +kernel)
theorem dX35_boxItem_154 : decode cX35_boxItem 154 = .ok (.aload_n 0, 1) := dc_42 (by decide +kernel)
theorem dX35_boxItem_155 : decode cX35_boxItem 155 = .ok (.iconst 5, 1) := dc_8 (by decide +kernel)
theorem dX35_boxItem_156 : decode cX35_boxItem 156 = .ok (.iconst 0, 1) := dc_3 (by decide +kernel)
theorem dX35_boxItem_157 : decode cX35_boxItem 157 = .ok (.aload_n 0, 1) := dc_42 (by decide +kernel)
theorem dX35_boxItem_158 : decode cX35_boxItem 158 = .ok (.getfield 160, 3) := dc_180 (a := 0) (b := 160) (n := 160) (by decide +kernel)
theorem dX35_boxItem_161 : decode cX35_boxItem 161 = .ok (.iload_n 1, 1) := dc_27 (by decide +kernel)
theorem dX35_boxItem_162 : decode cX35_boxItem 162 = .ok (.iaload, 1) := dc_46 (by decide +kernel)
theorem dX35_boxItem_163 : decode cX35_boxItem 163 = .ok (.aload_n 0, 1) := dc_42 (by decide +kernel)
theorem dX35_boxItem_164 : decode cX35_boxItem 164 = .ok (.getfield 163, 3) := dc_180 (a := 0) (b := 163) (n := 163) (by decide +kernel)
theorem dX35_boxItem_167 : decode cX35_boxItem 167 = .ok (.iload_n 1, 1) := dc_27 (by decide +kernel)
theorem dX35_boxItem_168 : decode cX35_boxItem 168 = .ok (.iaload, 1) := dc_46 (by decide +kernel)
theorem dX35_boxItem_169 : decode cX35_boxItem 169 = .ok (.iconst 0, 1) := dc_3 (by decide +kernel)
theorem dX35_boxItem_170 : decode cX35_boxItem 170 = .ok (.iload_n 1, 1) := dc_27 (by decide +kernel)
theorem dX35_boxItem_171 : decode cX35_boxItem 171 = .ok (.iload_n 2, 1) := dc_28 (by decide +kernel)
theorem dX35_boxItem_172 : decode cX35_boxItem 172 = .ok (.invokevirtual 794, 3) := dc_182 (a := 3) (b := 26) (n := 794) (by decide +kernel)
theorem dX35_boxItem_175 : decode cX35_boxItem 175 = .ok (.goto 13, 3) := dc_167 (a := 0) (b := 13) (v := 13) (by decide +kernel)
theorem dX35_boxItem_178 : decode cX35_boxItem 178 = .ok (.aload_n 0, 1) := dc_42 (by decide +kernel)
theorem dX35_boxItem_179 : decode cX35_boxItem 179 = .ok (.iconst 5, 1) := dc_8 (by decide +kernel)
theorem dX35_boxItem_180 : decode cX35_boxItem 180 = .ok (.iload_n 1, 1) := dc_27 (by decide +kernel)
theorem dX35_boxItem_181 : decode cX35_boxItem 181 = .ok (.iload_n 2, 1) := dc_28 (by decide +kernel)
theorem dX35_boxItem_182 : decode cX35_boxItem 182 = .ok (.iconst 0, 1) := dc_3 (by decide +kernel)
theorem dX35_boxItem_183 : decode cX35_boxItem 183 = .ok (.iconst 0, 1) := dc_3 (by decide +kernel)
theorem dX35_boxItem_184 : decode cX35_boxItem 184 = .ok (.iconst 0, 1) := dc_3 (by decide +kernel)
theorem dX35_boxItem_185 : decode cX35_boxItem 185 = .ok (.invokevirtual 798, 3) := dc_182 (a := 3) (b := 30) (n := 798) (by decide +kernel)
theorem dX35_boxItem_188 : decode cX35_boxItem 188 = .ok (.aload_n 0, 1) := dc_42 (by decide +kernel)
theorem dX35_boxItem_189 : decode cX35_boxItem 189 = .ok (.getfield 133, 3) := dc_180 (a := 0) (b := 133) (n := 133) (by decide +kernel)
theorem dX35_boxItem_192 : decode cX35_boxItem 192 = .ok (.iload_n 3, 1) := dc_29 (by decide +kernel)
theorem dX35_boxItem_193 : decode cX35_boxItem 193 = .ok (.aload_n 0, 1) := dc_42 (by decide +kernel)
theorem dX35_boxItem_194 : decode cX35_boxItem 194 = .ok (.getfield 163, 3) := dc_180 (a := 0) (b := 163) (n := 163) (by decide +kernel)
theorem dX35_boxItem_197 : decode cX35_boxItem 197 = .ok (.iload_n 1, 1) := dc_27 (by decide +kernel)
theorem dX35_boxItem_198 : decode cX35_boxItem 198 = .ok (.iaload, 1) := dc_46 (by decide +kernel)
theorem dX35_boxItem_199 : decode cX35_boxItem 199 = .ok (.iastore, 1) := dc_79 (by decide +kernel)
theorem dX35_boxItem_200 : decode cX35_boxItem 200 = .ok (.return_, 1) := dc_177 (by decide +kernel)
def fX35_boxItem_b188 (N : Nat) (sL : Nat → Int32 → Int64 → Int64 → eH → Option (Int32 × eH)) (l0 : Nat) (l1 : Int32) (l3 : Int32) (h : eH) : Option (Unit × eH) :=
  (g_A 34 h l0 54).bind fun a1 =>
  (g_A 34 h l0 70).bind fun a3 =>
  (r_I 100 h a3 l1).bind fun x5 =>
  (q_V 100 h a1 l3 (.int x5)).bind fun h7 =>
  some ((), h7)
theorem pX35_boxItem_b188 {w : eW} {d : Nat} {dr : Nat} (hd : dr + 11 ≤ d + 1) (hdr : 12 ≤ dr) {N : Nat} {sL : Nat → Int32 → Int64 → Int64 → eH → Option (Int32 × eH)} (hsL : ∀ a t0 t1 t2 h q, sL a t0 t1 t2 h = some q → wm w dr YX35_layBox [.ref a, .int t0, .long t1, .long t2] h (e_is (e_rn c_I q))) {l0 : Nat} {l1 : Int32} {l3 : Int32} {h : eH} {q} (hf : fX35_boxItem_b188 N sL l0 l1 l3 h = some q) : wp w (d + 1) YX35_boxItem 188 [some (.ref l0), some (.int l1), none, some (.int l3), none, none, none] [] h (e_is (e_rn c_V q)) := by
  unfold fX35_boxItem_b188 at hf
  refine w_aload_n dX35_boxItem_188 rfl rfl ?_
  obtain ⟨a1, b2, hf⟩ := Option.bind_eq_some_iff.mp hf
  refine GX35_133 b2 dX35_boxItem_189 rfl ?_
  refine w_iload_n dX35_boxItem_192 rfl rfl ?_
  refine w_aload_n dX35_boxItem_193 rfl rfl ?_
  obtain ⟨a3, b4, hf⟩ := Option.bind_eq_some_iff.mp hf
  refine GX35_163 b4 dX35_boxItem_194 rfl ?_
  refine w_iload_n dX35_boxItem_197 rfl rfl ?_
  obtain ⟨x5, b6, hf⟩ := Option.bind_eq_some_iff.mp hf
  refine x_rI b6 dX35_boxItem_198 ?_
  obtain ⟨h7, b8, hf⟩ := Option.bind_eq_some_iff.mp hf
  refine x_qI b8 dX35_boxItem_199 ?_
  cases hf
  exact w_vret dX35_boxItem_200 rfl rfl
def fX35_boxItem_b139 (N : Nat) (sL : Nat → Int32 → Int64 → Int64 → eH → Option (Int32 × eH)) (l0 : Nat) (l1 : Int32) (l2 : Int32) (l3 : Int32) (h : eH) : Option (Unit × eH) :=
  (g_I 34 h l0 46).bind fun x1 =>
  if x1 ≤ 0 then
    (k_ok 34 h l0).bind fun _ =>
    (fX35_mode l0 h).bind fun q5 =>
    if ¬ q5.1 = 0 then
      (k_ok 34 q5.2 l0).bind fun _ =>
      (fX35_item N l0 (5 : Int32) l1 l2 (0 : Int32) (0 : Int32) (0 : Int32) q5.2).bind fun q8 =>
      fX35_boxItem_b188 N sL l0 l1 l3 q8.2
    else
      (g_A 34 q5.2 l0 69).bind fun a9 =>
      (r_I 100 q5.2 a9 l1).bind fun x11 =>
      (g_A 34 q5.2 l0 70).bind fun a13 =>
      (r_I 100 q5.2 a13 l1).bind fun x15 =>
      (k_ok 34 q5.2 l0).bind fun _ =>
      (fX35_outer N sL l0 (5 : Int32) (0 : Int32) x11 x15 (0 : Int32) l1 l2 q5.2).bind fun q18 =>
      fX35_boxItem_b188 N sL l0 l1 l3 q18.2
  else
    some ((), h)
theorem pX35_boxItem_b139 {w : eW} {d : Nat} {dr : Nat} (hd : dr + 11 ≤ d + 1) (hdr : 12 ≤ dr) {N : Nat} {sL : Nat → Int32 → Int64 → Int64 → eH → Option (Int32 × eH)} (hsL : ∀ a t0 t1 t2 h q, sL a t0 t1 t2 h = some q → wm w dr YX35_layBox [.ref a, .int t0, .long t1, .long t2] h (e_is (e_rn c_I q))) {l0 : Nat} {l1 : Int32} {l2 : Int32} {l3 : Int32} {h : eH} {q} (hf : fX35_boxItem_b139 N sL l0 l1 l2 l3 h = some q) : wp w (d + 1) YX35_boxItem 139 [some (.ref l0), some (.int l1), some (.int l2), some (.int l3), none, none, none] [] h (e_is (e_rn c_V q)) := by
  unfold fX35_boxItem_b139 at hf
  refine w_aload_n dX35_boxItem_139 rfl rfl ?_
  obtain ⟨x1, b2, hf⟩ := Option.bind_eq_some_iff.mp hf
  refine GX35_321 b2 dX35_boxItem_140 rfl ?_
  refine w_if_le 147 dX35_boxItem_143 (by decide) (fun c3 => ?_) (fun c3 => ?_)
  · replace hf := (if_pos (show x1 ≤ 0 from c3)).symm.trans hf
    refine w_aload_n dX35_boxItem_147 rfl rfl ?_
    obtain ⟨_, b4, hf⟩ := Option.bind_eq_some_iff.mp hf
    refine x_cnI hf (e_stV (Yc := YX35_mode) (ci := 34) (av := []) (st := []) dX35_boxItem_148 q5417 mX35_mode rfl (k_ok_some b4).1 (k_ok_some b4).2) mX35_mode.2.2.1 mX35_mode.2.2.2.2.1 (Nat.le_of_ble_eq_true rfl) (Nat.le_of_ble_eq_true rfl) (fun q hq => pX35_mode (by omega) hq) (fun q5 hf => ?_)
    refine w_if_ne 178 dX35_boxItem_151 (by decide) (fun c6 => ?_) (fun c6 => ?_)
    · replace hf := (if_pos (show ¬ q5.1 = 0 from c6)).symm.trans hf
      refine w_aload_n dX35_boxItem_178 rfl rfl ?_
      refine w_iconst dX35_boxItem_179 (v := 5) (by decide) ?_
      refine w_iload_n dX35_boxItem_180 rfl rfl ?_
      refine w_iload_n dX35_boxItem_181 rfl rfl ?_
      refine w_iconst dX35_boxItem_182 (v := 0) (by decide) ?_
      refine w_iconst dX35_boxItem_183 (v := 0) (by decide) ?_
      refine w_iconst dX35_boxItem_184 (v := 0) (by decide) ?_
      obtain ⟨_, b7, hf⟩ := Option.bind_eq_some_iff.mp hf
      refine x_cnV hf (e_stV (Yc := YX35_item) (ci := 34) (av := [.int (5 : Int32), .int l1, .int l2, .int (0 : Int32), .int (0 : Int32), .int (0 : Int32)]) (st := []) dX35_boxItem_185 q5643 mX35_item rfl (k_ok_some b7).1 (k_ok_some b7).2) mX35_item.2.2.1 mX35_item.2.2.2.2.1 (Nat.le_of_ble_eq_true rfl) (Nat.le_of_ble_eq_true rfl) (fun q hq => pX35_item (by omega) hq) (fun q8 hf => ?_)
      exact (pX35_boxItem_b188 hd hdr hsL hf).to ⟨rfl, rfl, rfl, trivial⟩
    · replace hf := (if_neg (show ¬ (¬ q5.1 = 0) from (fun z => z c6))).symm.trans hf
      refine w_aload_n dX35_boxItem_154 rfl rfl ?_
      refine w_iconst dX35_boxItem_155 (v := 5) (by decide) ?_
      refine w_iconst dX35_boxItem_156 (v := 0) (by decide) ?_
      refine w_aload_n dX35_boxItem_157 rfl rfl ?_
      obtain ⟨a9, b10, hf⟩ := Option.bind_eq_some_iff.mp hf
      refine GX35_160 b10 dX35_boxItem_158 rfl ?_
      refine w_iload_n dX35_boxItem_161 rfl rfl ?_
      obtain ⟨x11, b12, hf⟩ := Option.bind_eq_some_iff.mp hf
      refine x_rI b12 dX35_boxItem_162 ?_
      refine w_aload_n dX35_boxItem_163 rfl rfl ?_
      obtain ⟨a13, b14, hf⟩ := Option.bind_eq_some_iff.mp hf
      refine GX35_163 b14 dX35_boxItem_164 rfl ?_
      refine w_iload_n dX35_boxItem_167 rfl rfl ?_
      obtain ⟨x15, b16, hf⟩ := Option.bind_eq_some_iff.mp hf
      refine x_rI b16 dX35_boxItem_168 ?_
      refine w_iconst dX35_boxItem_169 (v := 0) (by decide) ?_
      refine w_iload_n dX35_boxItem_170 rfl rfl ?_
      refine w_iload_n dX35_boxItem_171 rfl rfl ?_
      obtain ⟨_, b17, hf⟩ := Option.bind_eq_some_iff.mp hf
      refine x_cnV hf (e_stV (Yc := YX35_outer) (ci := 34) (av := [.int (5 : Int32), .int (0 : Int32), .int x11, .int x15, .int (0 : Int32), .int l1, .int l2]) (st := []) dX35_boxItem_172 q5465 mX35_outer rfl (k_ok_some b17).1 (k_ok_some b17).2) mX35_outer.2.2.1 mX35_outer.2.2.2.2.1 (Nat.le_of_ble_eq_true rfl) (Nat.le_of_ble_eq_true rfl) (fun q hq => pX35_outer (by omega) hdr hsL hq) (fun q18 hf => ?_)
      refine w_goto 188 dX35_boxItem_175 (by decide) ?_
      exact (pX35_boxItem_b188 hd hdr hsL hf).to ⟨rfl, rfl, rfl, trivial⟩
  · replace hf := (if_neg (show ¬ (x1 ≤ 0) from c3)).symm.trans hf
    cases hf
    exact w_vret dX35_boxItem_146 rfl rfl
def fX35_boxItem (N : Nat) (sL : Nat → Int32 → Int64 → Int64 → eH → Option (Int32 × eH)) (this : Nat) (p0 : Int32) (p1 : Int32) (h : eH) : Option (Unit × eH) :=
  (k_ok 34 h this).bind fun _ =>
  (fX35_isVertical this h).bind fun q2 =>
  if ¬ q2.1 = 0 then
    (g_I 34 q2.2 this 51).bind fun x4 =>
    (g_A 34 q2.2 this 54).bind fun a6 =>
    (r_I 100 q2.2 a6 (x4 - (1 : Int32))).bind fun x8 =>
    if x8 = (-2147483647 : Int32) then
      fX35_boxItem_b139 N sL this p0 p1 (x4 - (1 : Int32)) q2.2
    else
      (k_ok 34 q2.2 this).bind fun _ =>
      (fX35_now this (3275 : Int32) q2.2).bind fun q12 =>
      (g_A 34 q12.2 this 54).bind fun a13 =>
      (r_I 100 q12.2 a13 (x4 - (1 : Int32))).bind fun x15 =>
      (g_A 34 q12.2 this 69).bind fun a17 =>
      (r_I 100 q12.2 a17 p0).bind fun x19 =>
      (fX35_isSize (((q12.1).toInt64 - (x15).toInt64) - (x19).toInt64) q12.2).bind fun q21 =>
      if ¬ q21.1 = 0 then
        (k_ok 34 q21.2 this).bind fun _ =>
        (fX35_now this (2244 : Int32) q21.2).bind fun q24 =>
        if 0 ≤ (lg_cmp (((q12.1).toInt64 - (x15).toInt64) - (x19).toInt64) (q24.1).toInt64) then
          (k_ok 34 q24.2 this).bind fun _ =>
          (fX35_now this ((3275 : Int32) + (1 : Int32)) q24.2).bind fun q27 =>
          (k_ok 34 q27.2 this).bind fun _ =>
          (fX35_now this ((3275 : Int32) + (2 : Int32)) q27.2).bind fun q29 =>
          (k_ok 34 q29.2 this).bind fun _ =>
          (fX35_now this ((3275 : Int32) + (3 : Int32)) q29.2).bind fun q31 =>
          (k_ok 34 q31.2 this).bind fun _ =>
          (fX35_glueItem N sL this ((((q12.1).toInt64 - (x15).toInt64) - (x19).toInt64)).toInt32 q27.1 q29.1 q31.1 q31.2).bind fun q33 =>
          fX35_boxItem_b139 N sL this p0 p1 (x4 - (1 : Int32)) q33.2
        else
          (k_ok 34 q24.2 this).bind fun _ =>
          (fX35_glueOf N sL this (258 : Int32) q24.2).bind fun q35 =>
          fX35_boxItem_b139 N sL this p0 p1 (x4 - (1 : Int32)) q35.2
      else
        (k_ok 34 q21.2 this).bind fun _ =>
        (fX35_fail this (16 : Int32) q21.2).bind fun q37 =>
        fX35_boxItem_b139 N sL this p0 p1 (x4 - (1 : Int32)) q37.2
  else
    (k_ok 34 q2.2 this).bind fun _ =>
    (fX35_item N this (5 : Int32) p0 p1 (0 : Int32) (0 : Int32) (0 : Int32) q2.2).bind fun q39 =>
    some ((), q39.2)
theorem pX35_boxItem {w : eW} {d : Nat} {dr : Nat} (hd : dr + 11 ≤ d) (hdr : 12 ≤ dr) {N : Nat} {sL : Nat → Int32 → Int64 → Int64 → eH → Option (Int32 × eH)} (hsL : ∀ a t0 t1 t2 h q, sL a t0 t1 t2 h = some q → wm w dr YX35_layBox [.ref a, .int t0, .long t1, .long t2] h (e_is (e_rn c_I q))) {this : Nat} {p0 : Int32} {p1 : Int32} {h : eH} {q} (hf : fX35_boxItem N sL this p0 p1 h = some q) : wm w d YX35_boxItem [.ref this, .int p0, .int p1] h (e_is (e_rn c_V q)) := by
  obtain ⟨d, rfl⟩ : ∃ e, d = e + 1 := ⟨d - 1, by omega⟩
  show wp w (d + 1) YX35_boxItem 0 [some (.ref this), some (.int p0), some (.int p1), none, none, none, none] [] h _
  unfold fX35_boxItem at hf
  refine w_aload_n dX35_boxItem_0 rfl rfl ?_
  obtain ⟨_, b1, hf⟩ := Option.bind_eq_some_iff.mp hf
  refine x_cnI hf (e_stV (Yc := YX35_isVertical) (ci := 34) (av := []) (st := []) dX35_boxItem_1 q5449 mX35_isVertical rfl (k_ok_some b1).1 (k_ok_some b1).2) mX35_isVertical.2.2.1 mX35_isVertical.2.2.2.2.1 (Nat.le_of_ble_eq_true rfl) (Nat.le_of_ble_eq_true rfl) (fun q hq => pX35_isVertical (by omega) hq) (fun q2 hf => ?_)
  refine w_if_ne 18 dX35_boxItem_4 (by decide) (fun c3 => ?_) (fun c3 => ?_)
  · replace hf := (if_pos (show ¬ q2.1 = 0 from c3)).symm.trans hf
    refine w_aload_n dX35_boxItem_18 rfl rfl ?_
    obtain ⟨x4, b5, hf⟩ := Option.bind_eq_some_iff.mp hf
    refine GX35_366 b5 dX35_boxItem_19 rfl ?_
    refine w_iconst dX35_boxItem_22 (v := 1) (by decide) ?_
    refine w_isub dX35_boxItem_23 ?_
    refine w_istore_n dX35_boxItem_24 rfl (by decide) (ls' := [some (.ref this), some (.int p0), some (.int p1), some (.int (x4 - (1 : Int32))), none, none, none]) rfl ?_
    refine w_aload_n dX35_boxItem_25 rfl rfl ?_
    obtain ⟨a6, b7, hf⟩ := Option.bind_eq_some_iff.mp hf
    refine GX35_133 b7 dX35_boxItem_26 rfl ?_
    refine w_iload_n dX35_boxItem_29 rfl rfl ?_
    obtain ⟨x8, b9, hf⟩ := Option.bind_eq_some_iff.mp hf
    refine x_rI b9 dX35_boxItem_30 ?_
    refine w_ldc_w dX35_boxItem_31 q4478 ?_
    refine w_icmp_eq 139 dX35_boxItem_34 (by decide) (fun c10 => ?_) (fun c10 => ?_)
    · replace hf := (if_pos (show x8 = (-2147483647 : Int32) from c10)).symm.trans hf
      exact (pX35_boxItem_b139 hd hdr hsL hf).to ⟨rfl, rfl, rfl, rfl, trivial⟩
    · replace hf := (if_neg (show ¬ (x8 = (-2147483647 : Int32)) from c10)).symm.trans hf
      refine w_sipush dX35_boxItem_37 (v := 3275) (by decide) ?_
      refine w_istore dX35_boxItem_40 (by decide) (ls' := [some (.ref this), some (.int p0), some (.int p1), some (.int (x4 - (1 : Int32))), some (.int (3275 : Int32)), none, none]) rfl ?_
      refine w_aload_n dX35_boxItem_42 rfl rfl ?_
      refine w_iload dX35_boxItem_43 rfl ?_
      obtain ⟨_, b11, hf⟩ := Option.bind_eq_some_iff.mp hf
      refine x_cnI hf (e_stV (Yc := YX35_now) (ci := 34) (av := [.int (3275 : Int32)]) (st := []) dX35_boxItem_45 q5097 mX35_now rfl (k_ok_some b11).1 (k_ok_some b11).2) mX35_now.2.2.1 mX35_now.2.2.2.2.1 (Nat.le_of_ble_eq_true rfl) (Nat.le_of_ble_eq_true rfl) (fun q hq => pX35_now (by omega) hq) (fun q12 hf => ?_)
      refine w_i2l dX35_boxItem_48 ?_
      refine w_aload_n dX35_boxItem_49 rfl rfl ?_
      obtain ⟨a13, b14, hf⟩ := Option.bind_eq_some_iff.mp hf
      refine GX35_133 b14 dX35_boxItem_50 rfl ?_
      refine w_iload_n dX35_boxItem_53 rfl rfl ?_
      obtain ⟨x15, b16, hf⟩ := Option.bind_eq_some_iff.mp hf
      refine x_rI b16 dX35_boxItem_54 ?_
      refine w_i2l dX35_boxItem_55 ?_
      refine w_lsub dX35_boxItem_56 ?_
      refine w_aload_n dX35_boxItem_57 rfl rfl ?_
      obtain ⟨a17, b18, hf⟩ := Option.bind_eq_some_iff.mp hf
      refine GX35_160 b18 dX35_boxItem_58 rfl ?_
      refine w_iload_n dX35_boxItem_61 rfl rfl ?_
      obtain ⟨x19, b20, hf⟩ := Option.bind_eq_some_iff.mp hf
      refine x_rI b20 dX35_boxItem_62 ?_
      refine w_i2l dX35_boxItem_63 ?_
      refine w_lsub dX35_boxItem_64 ?_
      refine w_lstore dX35_boxItem_65 (by decide) (ls' := [some (.ref this), some (.int p0), some (.int p1), some (.int (x4 - (1 : Int32))), some (.int (3275 : Int32)), some (.long (((q12.1).toInt64 - (x15).toInt64) - (x19).toInt64)), none]) rfl ?_
      refine w_lload dX35_boxItem_67 rfl ?_
      refine x_cnI hf (e_stS (Yc := YX35_isSize) (av := [.long (((q12.1).toInt64 - (x15).toInt64) - (x19).toInt64)]) (st := []) dX35_boxItem_69 q5412 mX35_isSize) mX35_isSize.2.2.1 mX35_isSize.2.2.2.2.1 (Nat.le_of_ble_eq_true rfl) (Nat.le_of_ble_eq_true rfl) (fun q hq => pX35_isSize (by omega) hq) (fun q21 hf => ?_)
      refine w_if_ne 84 dX35_boxItem_72 (by decide) (fun c22 => ?_) (fun c22 => ?_)
      · replace hf := (if_pos (show ¬ q21.1 = 0 from c22)).symm.trans hf
        refine w_lload dX35_boxItem_84 rfl ?_
        refine w_aload_n dX35_boxItem_86 rfl rfl ?_
        refine w_sipush dX35_boxItem_87 (v := 2244) (by decide) ?_
        obtain ⟨_, b23, hf⟩ := Option.bind_eq_some_iff.mp hf
        refine x_cnI hf (e_stV (Yc := YX35_now) (ci := 34) (av := [.int (2244 : Int32)]) (st := [.long (((q12.1).toInt64 - (x15).toInt64) - (x19).toInt64)]) dX35_boxItem_90 q5097 mX35_now rfl (k_ok_some b23).1 (k_ok_some b23).2) mX35_now.2.2.1 mX35_now.2.2.2.2.1 (Nat.le_of_ble_eq_true rfl) (Nat.le_of_ble_eq_true rfl) (fun q hq => pX35_now (by omega) hq) (fun q24 hf => ?_)
        refine w_i2l dX35_boxItem_93 ?_
        refine w_lcmp dX35_boxItem_94 ?_
        refine w_if_ge 108 dX35_boxItem_95 (by decide) (fun c25 => ?_) (fun c25 => ?_)
        · replace hf := (if_pos (show 0 ≤ (lg_cmp (((q12.1).toInt64 - (x15).toInt64) - (x19).toInt64) (q24.1).toInt64) from c25)).symm.trans hf
          refine w_aload_n dX35_boxItem_108 rfl rfl ?_
          refine w_lload dX35_boxItem_109 rfl ?_
          refine w_l2i dX35_boxItem_111 ?_
          refine w_aload_n dX35_boxItem_112 rfl rfl ?_
          refine w_iload dX35_boxItem_113 rfl ?_
          refine w_iconst dX35_boxItem_115 (v := 1) (by decide) ?_
          refine w_iadd dX35_boxItem_116 ?_
          obtain ⟨_, b26, hf⟩ := Option.bind_eq_some_iff.mp hf
          refine x_cnI hf (e_stV (Yc := YX35_now) (ci := 34) (av := [.int ((3275 : Int32) + (1 : Int32))]) (st := [.int ((((q12.1).toInt64 - (x15).toInt64) - (x19).toInt64)).toInt32, .ref this]) dX35_boxItem_117 q5097 mX35_now rfl (k_ok_some b26).1 (k_ok_some b26).2) mX35_now.2.2.1 mX35_now.2.2.2.2.1 (Nat.le_of_ble_eq_true rfl) (Nat.le_of_ble_eq_true rfl) (fun q hq => pX35_now (by omega) hq) (fun q27 hf => ?_)
          refine w_aload_n dX35_boxItem_120 rfl rfl ?_
          refine w_iload dX35_boxItem_121 rfl ?_
          refine w_iconst dX35_boxItem_123 (v := 2) (by decide) ?_
          refine w_iadd dX35_boxItem_124 ?_
          obtain ⟨_, b28, hf⟩ := Option.bind_eq_some_iff.mp hf
          refine x_cnI hf (e_stV (Yc := YX35_now) (ci := 34) (av := [.int ((3275 : Int32) + (2 : Int32))]) (st := [.int q27.1, .int ((((q12.1).toInt64 - (x15).toInt64) - (x19).toInt64)).toInt32, .ref this]) dX35_boxItem_125 q5097 mX35_now rfl (k_ok_some b28).1 (k_ok_some b28).2) mX35_now.2.2.1 mX35_now.2.2.2.2.1 (Nat.le_of_ble_eq_true rfl) (Nat.le_of_ble_eq_true rfl) (fun q hq => pX35_now (by omega) hq) (fun q29 hf => ?_)
          refine w_aload_n dX35_boxItem_128 rfl rfl ?_
          refine w_iload dX35_boxItem_129 rfl ?_
          refine w_iconst dX35_boxItem_131 (v := 3) (by decide) ?_
          refine w_iadd dX35_boxItem_132 ?_
          obtain ⟨_, b30, hf⟩ := Option.bind_eq_some_iff.mp hf
          refine x_cnI hf (e_stV (Yc := YX35_now) (ci := 34) (av := [.int ((3275 : Int32) + (3 : Int32))]) (st := [.int q29.1, .int q27.1, .int ((((q12.1).toInt64 - (x15).toInt64) - (x19).toInt64)).toInt32, .ref this]) dX35_boxItem_133 q5097 mX35_now rfl (k_ok_some b30).1 (k_ok_some b30).2) mX35_now.2.2.1 mX35_now.2.2.2.2.1 (Nat.le_of_ble_eq_true rfl) (Nat.le_of_ble_eq_true rfl) (fun q hq => pX35_now (by omega) hq) (fun q31 hf => ?_)
          obtain ⟨_, b32, hf⟩ := Option.bind_eq_some_iff.mp hf
          refine x_cnV hf (e_stV (Yc := YX35_glueItem) (ci := 34) (av := [.int ((((q12.1).toInt64 - (x15).toInt64) - (x19).toInt64)).toInt32, .int q27.1, .int q29.1, .int q31.1]) (st := []) dX35_boxItem_136 q5461 mX35_glueItem rfl (k_ok_some b32).1 (k_ok_some b32).2) mX35_glueItem.2.2.1 mX35_glueItem.2.2.2.2.1 (Nat.le_of_ble_eq_true rfl) (Nat.le_of_ble_eq_true rfl) (fun q hq => pX35_glueItem (by omega) hdr hsL hq) (fun q33 hf => ?_)
          exact (pX35_boxItem_b139 hd hdr hsL hf).to ⟨rfl, rfl, rfl, rfl, trivial⟩
        · replace hf := (if_neg (show ¬ (0 ≤ (lg_cmp (((q12.1).toInt64 - (x15).toInt64) - (x19).toInt64) (q24.1).toInt64)) from c25)).symm.trans hf
          refine w_aload_n dX35_boxItem_98 rfl rfl ?_
          refine w_sipush dX35_boxItem_99 (v := 258) (by decide) ?_
          obtain ⟨_, b34, hf⟩ := Option.bind_eq_some_iff.mp hf
          refine x_cnV hf (e_stV (Yc := YX35_glueOf) (ci := 34) (av := [.int (258 : Int32)]) (st := []) dX35_boxItem_102 q5457 mX35_glueOf rfl (k_ok_some b34).1 (k_ok_some b34).2) mX35_glueOf.2.2.1 mX35_glueOf.2.2.2.2.1 (Nat.le_of_ble_eq_true rfl) (Nat.le_of_ble_eq_true rfl) (fun q hq => pX35_glueOf (by omega) hdr hsL hq) (fun q35 hf => ?_)
          refine w_goto 139 dX35_boxItem_105 (by decide) ?_
          exact (pX35_boxItem_b139 hd hdr hsL hf).to ⟨rfl, rfl, rfl, rfl, trivial⟩
      · replace hf := (if_neg (show ¬ (¬ q21.1 = 0) from (fun z => z c22))).symm.trans hf
        refine w_aload_n dX35_boxItem_75 rfl rfl ?_
        refine w_bipush dX35_boxItem_76 (v := 16) (by decide) ?_
        obtain ⟨_, b36, hf⟩ := Option.bind_eq_some_iff.mp hf
        refine x_cnV hf (e_stV (Yc := YX35_fail) (ci := 34) (av := [.int (16 : Int32)]) (st := []) dX35_boxItem_78 q5109 mX35_fail rfl (k_ok_some b36).1 (k_ok_some b36).2) mX35_fail.2.2.1 mX35_fail.2.2.2.2.1 (Nat.le_of_ble_eq_true rfl) (Nat.le_of_ble_eq_true rfl) (fun q hq => pX35_fail (by omega) hq) (fun q37 hf => ?_)
        refine w_goto 139 dX35_boxItem_81 (by decide) ?_
        exact (pX35_boxItem_b139 hd hdr hsL hf).to ⟨rfl, rfl, rfl, rfl, trivial⟩
  · replace hf := (if_neg (show ¬ (¬ q2.1 = 0) from (fun z => z c3))).symm.trans hf
    refine w_aload_n dX35_boxItem_7 rfl rfl ?_
    refine w_iconst dX35_boxItem_8 (v := 5) (by decide) ?_
    refine w_iload_n dX35_boxItem_9 rfl rfl ?_
    refine w_iload_n dX35_boxItem_10 rfl rfl ?_
    refine w_iconst dX35_boxItem_11 (v := 0) (by decide) ?_
    refine w_iconst dX35_boxItem_12 (v := 0) (by decide) ?_
    refine w_iconst dX35_boxItem_13 (v := 0) (by decide) ?_
    obtain ⟨_, b38, hf⟩ := Option.bind_eq_some_iff.mp hf
    refine x_cnV hf (e_stV (Yc := YX35_item) (ci := 34) (av := [.int (5 : Int32), .int p0, .int p1, .int (0 : Int32), .int (0 : Int32), .int (0 : Int32)]) (st := []) dX35_boxItem_14 q5643 mX35_item rfl (k_ok_some b38).1 (k_ok_some b38).2) mX35_item.2.2.1 mX35_item.2.2.2.2.1 (Nat.le_of_ble_eq_true rfl) (Nat.le_of_ble_eq_true rfl) (fun q hq => pX35_item (by omega) hq) (fun q39 hf => ?_)
    cases hf
    exact w_vret dX35_boxItem_17 rfl rfl
abbrev cX35_beginParagraph : ByteArray := prog_37_method_122_code
def yX35_beginParagraph : MethodName := ⟨RX35, "beginParagraph", "(Z)V"⟩
def YX35_beginParagraph : eY := (yX35_beginParagraph, cX35_beginParagraph, 3, none, [])
theorem mX35_beginParagraph : e_mv YX35_beginParagraph RX35 1 := ⟨q5455, qs310, q5456, by decide, by decide +kernel, (e_sig (by decide +kernel))⟩
theorem dX35_beginParagraph_0 : decode cX35_beginParagraph 0 = .ok (.aload_n 0, 1) := dc_42 (by decide +kernel)
theorem dX35_beginParagraph_1 : decode cX35_beginParagraph 1 = .ok (.invokevirtual 587, 3) := dc_182 (a := 2) (b := 75) (n := 587) (by decide +kernel)
theorem dX35_beginParagraph_4 : decode cX35_beginParagraph 4 = .ok (.ifCond .eq 21, 3) := dc_153 (a := 0) (b := 21) (v := 21) (by decide +kernel)
theorem dX35_beginParagraph_7 : decode cX35_beginParagraph 7 = .ok (.aload_n 0, 1) := dc_42 (by decide +kernel)
theorem dX35_beginParagraph_8 : decode cX35_beginParagraph 8 = .ok (.getfield 370, 3) := dc_180 (a := 1) (b := 114) (n := 370) (by decide +kernel)
theorem dX35_beginParagraph_11 : decode cX35_beginParagraph 11 = .ok (.aload_n 0, 1) := dc_42 (by decide +kernel)
theorem dX35_beginParagraph_12 : decode cX35_beginParagraph 12 = .ok (.getfield 130, 3) := dc_180 (a := 0) (b := 130) (n := 130) (by decide +kernel)
theorem dX35_beginParagraph_15 : decode cX35_beginParagraph 15 = .ok (.aload_n 0, 1) := dc_42 (by decide +kernel)
theorem dX35_beginParagraph_16 : decode cX35_beginParagraph 16 = .ok (.getfield 366, 3) := dc_180 (a := 1) (b := 110) (n := 366) (by decide +kernel)
theorem dX35_beginParagraph_19 : decode cX35_beginParagraph 19 = .ok (.iconst 1, 1) := dc_4 (by decide +kernel)
theorem dX35_beginParagraph_20 : decode cX35_beginParagraph 20 = .ok (.isub, 1) := dc_100 (by decide +kernel)
theorem dX35_beginParagraph_21 : decode cX35_beginParagraph 21 = .ok (.iaload, 1) := dc_46 (by decide +kernel)
theorem dX35_beginParagraph_22 : decode cX35_beginParagraph 22 = .ok (.if_icmp .le 10, 3) := dc_164 (a := 0) (b := 10) (v := 10) (by decide +kernel)
theorem dX35_beginParagraph_25 : decode cX35_beginParagraph 25 = .ok (.aload_n 0, 1) := dc_42 (by decide +kernel)
theorem dX35_beginParagraph_26 : decode cX35_beginParagraph 26 = .ok (.sipush 256, 3) := dc_17 (a := 1) (b := 0) (v := 256) (by decide +kernel)
theorem dX35_beginParagraph_29 : decode cX35_beginParagraph 29 = .ok (.invokevirtual 813, 3) := dc_182 (a := 3) (b := 45) (n := 813) (by decide +kernel)
theorem dX35_beginParagraph_32 : decode cX35_beginParagraph 32 = .ok (.aload_n 0, 1) := dc_42 (by decide +kernel)
theorem dX35_beginParagraph_33 : decode cX35_beginParagraph 33 = .ok (.getfield 321, 3) := dc_180 (a := 1) (b := 65) (n := 321) (by decide +kernel)
theorem dX35_beginParagraph_36 : decode cX35_beginParagraph 36 = .ok (.ifCond .le 4, 3) := dc_158 (a := 0) (b := 4) (v := 4) (by decide +kernel)
theorem dX35_beginParagraph_39 : decode cX35_beginParagraph 39 = .ok (.return_, 1) := dc_177 (by decide +kernel)
theorem dX35_beginParagraph_40 : decode cX35_beginParagraph 40 = .ok (.aload_n 0, 1) := dc_42 (by decide +kernel)
theorem dX35_beginParagraph_41 : decode cX35_beginParagraph 41 = .ok (.iconst 2, 1) := dc_5 (by decide +kernel)
theorem dX35_beginParagraph_42 : decode cX35_beginParagraph 42 = .ok (.invokevirtual 876, 3) := dc_182 (a := 3) (b := 108) (n := 876) (by decide +kernel)
theorem dX35_beginParagraph_45 : decode cX35_beginParagraph 45 = .ok (.iload_n 1, 1) := dc_27 (by decide +kernel)
theorem dX35_beginParagraph_46 : decode cX35_beginParagraph 46 = .ok (.ifCond .eq 42, 3) := dc_153 (a := 0) (b := 42) (v := 42) (by decide +kernel)
theorem dX35_beginParagraph_49 : decode cX35_beginParagraph 49 = .ok (.aload_n 0, 1) := dc_42 (by decide +kernel)
theorem dX35_beginParagraph_50 : decode cX35_beginParagraph 50 = .ok (.aload_n 0, 1) := dc_42 (by decide +kernel)
theorem dX35_beginParagraph_51 : decode cX35_beginParagraph 51 = .ok (.getfield 136, 3) := dc_180 (a := 0) (b := 136) (n := 136) (by decide +kernel)
theorem dX35_beginParagraph_54 : decode cX35_beginParagraph 54 = .ok (.aload_n 0, 1) := dc_42 (by decide +kernel)
theorem dX35_beginParagraph_55 : decode cX35_beginParagraph 55 = .ok (.getfield 370, 3) := dc_180 (a := 1) (b := 114) (n := 370) (by decide +kernel)
theorem dX35_beginParagraph_58 : decode cX35_beginParagraph 58 = .ok (.aload_n 0, 1) := dc_42 (by decide +kernel)
theorem dX35_beginParagraph_59 : decode cX35_beginParagraph 59 = .ok (.getfield 370, 3) := dc_180 (a := 1) (b := 114) (n := 370) (by decide +kernel)
theorem dX35_beginParagraph_62 : decode cX35_beginParagraph 62 = .ok (.iconst 0, 1) := dc_3 (by decide +kernel)
theorem dX35_beginParagraph_63 : decode cX35_beginParagraph 63 = .ok (.iconst 1, 1) := dc_4 (by decide +kernel)
theorem dX35_beginParagraph_64 : decode cX35_beginParagraph 64 = .ok (.aload_n 0, 1) := dc_42 (by decide +kernel)
theorem dX35_beginParagraph_65 : decode cX35_beginParagraph 65 = .ok (.sipush 2243, 3) := dc_17 (a := 8) (b := 195) (v := 2243) (by decide +kernel)
theorem dX35_beginParagraph_68 : decode cX35_beginParagraph 68 = .ok (.invokevirtual 431, 3) := dc_182 (a := 1) (b := 175) (n := 431) (by decide +kernel)
theorem dX35_beginParagraph_71 : decode cX35_beginParagraph 71 = .ok (.invokevirtual 879, 3) := dc_182 (a := 3) (b := 111) (n := 879) (by decide +kernel)
theorem dX35_beginParagraph_74 : decode cX35_beginParagraph 74 = .ok (.istore_n 2, 1) := dc_61 (by decide +kernel)
theorem dX35_beginParagraph_75 : decode cX35_beginParagraph 75 = .ok (.aload_n 0, 1) := dc_42 (by decide +kernel)
theorem dX35_beginParagraph_76 : decode cX35_beginParagraph 76 = .ok (.getfield 321, 3) := dc_180 (a := 1) (b := 65) (n := 321) (by decide +kernel)
theorem dX35_beginParagraph_79 : decode cX35_beginParagraph 79 = .ok (.ifCond .ne 9, 3) := dc_154 (a := 0) (b := 9) (v := 9) (by decide +kernel)
theorem dX35_beginParagraph_82 : decode cX35_beginParagraph 82 = .ok (.aload_n 0, 1) := dc_42 (by decide +kernel)
theorem dX35_beginParagraph_83 : decode cX35_beginParagraph 83 = .ok (.iload_n 2, 1) := dc_28 (by decide +kernel)
theorem dX35_beginParagraph_84 : decode cX35_beginParagraph 84 = .ok (.iconst 0, 1) := dc_3 (by decide +kernel)
theorem dX35_beginParagraph_85 : decode cX35_beginParagraph 85 = .ok (.invokevirtual 883, 3) := dc_182 (a := 3) (b := 115) (n := 883) (by decide +kernel)
theorem dX35_beginParagraph_88 : decode cX35_beginParagraph 88 = .ok (.return_, 1) := dc_177 (by decide +kernel)
def fX35_beginParagraph_b88 (N : Nat) (sL : Nat → Int32 → Int64 → Int64 → eH → Option (Int32 × eH))  (h : eH) : Option (Unit × eH) :=
  some ((), h)
theorem pX35_beginParagraph_b88 {w : eW} {d : Nat} {dr : Nat} (hd : dr + 12 ≤ d + 1) (hdr : 12 ≤ dr) {N : Nat} {sL : Nat → Int32 → Int64 → Int64 → eH → Option (Int32 × eH)} (hsL : ∀ a t0 t1 t2 h q, sL a t0 t1 t2 h = some q → wm w dr YX35_layBox [.ref a, .int t0, .long t1, .long t2] h (e_is (e_rn c_I q)))  {h : eH} {q} (hf : fX35_beginParagraph_b88 N sL h = some q) : wp w (d + 1) YX35_beginParagraph 88 [none, none, none] [] h (e_is (e_rn c_V q)) := by
  unfold fX35_beginParagraph_b88 at hf
  cases hf
  exact w_vret dX35_beginParagraph_88 rfl rfl
def fX35_beginParagraph_b32 (N : Nat) (sL : Nat → Int32 → Int64 → Int64 → eH → Option (Int32 × eH)) (l0 : Nat) (l1 : Int32) (h : eH) : Option (Unit × eH) :=
  (g_I 34 h l0 46).bind fun x1 =>
  if x1 ≤ 0 then
    (k_ok 34 h l0).bind fun _ =>
    (fX35_openList l0 (2 : Int32) h).bind fun q5 =>
    if l1 = 0 then
      fX35_beginParagraph_b88 N sL q5.2
    else
      (g_A 34 q5.2 l0 55).bind fun a7 =>
      (g_I 34 q5.2 l0 56).bind fun x9 =>
      (g_I 34 q5.2 l0 56).bind fun x11 =>
      (k_ok 34 q5.2 l0).bind fun _ =>
      (fX35_now l0 (2243 : Int32) q5.2).bind fun q14 =>
      (k_ok 34 q14.2 l0).bind fun _ =>
      (fX35_pack N l0 a7 x9 x11 (0 : Int32) (1 : Int32) q14.1 q14.2).bind fun q16 =>
      (g_I 34 q16.2 l0 46).bind fun x17 =>
      if ¬ x17 = 0 then
        fX35_beginParagraph_b88 N sL q16.2
      else
        (k_ok 34 q16.2 l0).bind fun _ =>
        (fX35_boxItem N sL l0 q16.1 (0 : Int32) q16.2).bind fun q21 =>
        fX35_beginParagraph_b88 N sL q21.2
  else
    some ((), h)
theorem pX35_beginParagraph_b32 {w : eW} {d : Nat} {dr : Nat} (hd : dr + 12 ≤ d + 1) (hdr : 12 ≤ dr) {N : Nat} {sL : Nat → Int32 → Int64 → Int64 → eH → Option (Int32 × eH)} (hsL : ∀ a t0 t1 t2 h q, sL a t0 t1 t2 h = some q → wm w dr YX35_layBox [.ref a, .int t0, .long t1, .long t2] h (e_is (e_rn c_I q))) {l0 : Nat} {l1 : Int32} {h : eH} {q} (hf : fX35_beginParagraph_b32 N sL l0 l1 h = some q) : wp w (d + 1) YX35_beginParagraph 32 [some (.ref l0), some (.int l1), none] [] h (e_is (e_rn c_V q)) := by
  unfold fX35_beginParagraph_b32 at hf
  refine w_aload_n dX35_beginParagraph_32 rfl rfl ?_
  obtain ⟨x1, b2, hf⟩ := Option.bind_eq_some_iff.mp hf
  refine GX35_321 b2 dX35_beginParagraph_33 rfl ?_
  refine w_if_le 40 dX35_beginParagraph_36 (by decide) (fun c3 => ?_) (fun c3 => ?_)
  · replace hf := (if_pos (show x1 ≤ 0 from c3)).symm.trans hf
    refine w_aload_n dX35_beginParagraph_40 rfl rfl ?_
    refine w_iconst dX35_beginParagraph_41 (v := 2) (by decide) ?_
    obtain ⟨_, b4, hf⟩ := Option.bind_eq_some_iff.mp hf
    refine x_cnV hf (e_stV (Yc := YX35_openList) (ci := 34) (av := [.int (2 : Int32)]) (st := []) dX35_beginParagraph_42 q5650 mX35_openList rfl (k_ok_some b4).1 (k_ok_some b4).2) mX35_openList.2.2.1 mX35_openList.2.2.2.2.1 (Nat.le_of_ble_eq_true rfl) (Nat.le_of_ble_eq_true rfl) (fun q hq => pX35_openList (by omega) hq) (fun q5 hf => ?_)
    refine w_iload_n dX35_beginParagraph_45 rfl rfl ?_
    refine w_if_eq 88 dX35_beginParagraph_46 (by decide) (fun c6 => ?_) (fun c6 => ?_)
    · replace hf := (if_pos (show l1 = 0 from c6)).symm.trans hf
      exact (pX35_beginParagraph_b88 hd hdr hsL hf).to trivial
    · replace hf := (if_neg (show ¬ (l1 = 0) from c6)).symm.trans hf
      refine w_aload_n dX35_beginParagraph_49 rfl rfl ?_
      refine w_aload_n dX35_beginParagraph_50 rfl rfl ?_
      obtain ⟨a7, b8, hf⟩ := Option.bind_eq_some_iff.mp hf
      refine GX35_136 b8 dX35_beginParagraph_51 rfl ?_
      refine w_aload_n dX35_beginParagraph_54 rfl rfl ?_
      obtain ⟨x9, b10, hf⟩ := Option.bind_eq_some_iff.mp hf
      refine GX35_370 b10 dX35_beginParagraph_55 rfl ?_
      refine w_aload_n dX35_beginParagraph_58 rfl rfl ?_
      obtain ⟨x11, b12, hf⟩ := Option.bind_eq_some_iff.mp hf
      refine GX35_370 b12 dX35_beginParagraph_59 rfl ?_
      refine w_iconst dX35_beginParagraph_62 (v := 0) (by decide) ?_
      refine w_iconst dX35_beginParagraph_63 (v := 1) (by decide) ?_
      refine w_aload_n dX35_beginParagraph_64 rfl rfl ?_
      refine w_sipush dX35_beginParagraph_65 (v := 2243) (by decide) ?_
      obtain ⟨_, b13, hf⟩ := Option.bind_eq_some_iff.mp hf
      refine x_cnI hf (e_stV (Yc := YX35_now) (ci := 34) (av := [.int (2243 : Int32)]) (st := [.int (1 : Int32), .int (0 : Int32), .int x11, .int x9, .ref a7, .ref l0]) dX35_beginParagraph_68 q5097 mX35_now rfl (k_ok_some b13).1 (k_ok_some b13).2) mX35_now.2.2.1 mX35_now.2.2.2.2.1 (Nat.le_of_ble_eq_true rfl) (Nat.le_of_ble_eq_true rfl) (fun q hq => pX35_now (by omega) hq) (fun q14 hf => ?_)
      obtain ⟨_, b15, hf⟩ := Option.bind_eq_some_iff.mp hf
      refine x_cnI hf (e_stV (Yc := YX35_pack) (ci := 34) (av := [.ref a7, .int x9, .int x11, .int (0 : Int32), .int (1 : Int32), .int q14.1]) (st := []) dX35_beginParagraph_71 q5654 mX35_pack rfl (k_ok_some b15).1 (k_ok_some b15).2) mX35_pack.2.2.1 mX35_pack.2.2.2.2.1 (Nat.le_of_ble_eq_true rfl) (Nat.le_of_ble_eq_true rfl) (fun q hq => pX35_pack (by omega) hq) (fun q16 hf => ?_)
      refine w_istore_n dX35_beginParagraph_74 rfl (by decide) (ls' := [some (.ref l0), some (.int l1), some (.int q16.1)]) rfl ?_
      refine w_aload_n dX35_beginParagraph_75 rfl rfl ?_
      obtain ⟨x17, b18, hf⟩ := Option.bind_eq_some_iff.mp hf
      refine GX35_321 b18 dX35_beginParagraph_76 rfl ?_
      refine w_if_ne 88 dX35_beginParagraph_79 (by decide) (fun c19 => ?_) (fun c19 => ?_)
      · replace hf := (if_pos (show ¬ x17 = 0 from c19)).symm.trans hf
        exact (pX35_beginParagraph_b88 hd hdr hsL hf).to trivial
      · replace hf := (if_neg (show ¬ (¬ x17 = 0) from (fun z => z c19))).symm.trans hf
        refine w_aload_n dX35_beginParagraph_82 rfl rfl ?_
        refine w_iload_n dX35_beginParagraph_83 rfl rfl ?_
        refine w_iconst dX35_beginParagraph_84 (v := 0) (by decide) ?_
        obtain ⟨_, b20, hf⟩ := Option.bind_eq_some_iff.mp hf
        refine x_cnV hf (e_stV (Yc := YX35_boxItem) (ci := 34) (av := [.int q16.1, .int (0 : Int32)]) (st := []) dX35_beginParagraph_85 q5663 mX35_boxItem rfl (k_ok_some b20).1 (k_ok_some b20).2) mX35_boxItem.2.2.1 mX35_boxItem.2.2.2.2.1 (Nat.le_of_ble_eq_true rfl) (Nat.le_of_ble_eq_true rfl) (fun q hq => pX35_boxItem (by omega) hdr hsL hq) (fun q21 hf => ?_)
        exact (pX35_beginParagraph_b88 hd hdr hsL hf).to trivial
  · replace hf := (if_neg (show ¬ (x1 ≤ 0) from c3)).symm.trans hf
    cases hf
    exact w_vret dX35_beginParagraph_39 rfl rfl
def fX35_beginParagraph_b25 (N : Nat) (sL : Nat → Int32 → Int64 → Int64 → eH → Option (Int32 × eH)) (l0 : Nat) (l1 : Int32) (h : eH) : Option (Unit × eH) :=
  (k_ok 34 h l0).bind fun _ =>
  (fX35_glueOf N sL l0 (256 : Int32) h).bind fun q2 =>
  fX35_beginParagraph_b32 N sL l0 l1 q2.2
theorem pX35_beginParagraph_b25 {w : eW} {d : Nat} {dr : Nat} (hd : dr + 12 ≤ d + 1) (hdr : 12 ≤ dr) {N : Nat} {sL : Nat → Int32 → Int64 → Int64 → eH → Option (Int32 × eH)} (hsL : ∀ a t0 t1 t2 h q, sL a t0 t1 t2 h = some q → wm w dr YX35_layBox [.ref a, .int t0, .long t1, .long t2] h (e_is (e_rn c_I q))) {l0 : Nat} {l1 : Int32} {h : eH} {q} (hf : fX35_beginParagraph_b25 N sL l0 l1 h = some q) : wp w (d + 1) YX35_beginParagraph 25 [some (.ref l0), some (.int l1), none] [] h (e_is (e_rn c_V q)) := by
  unfold fX35_beginParagraph_b25 at hf
  refine w_aload_n dX35_beginParagraph_25 rfl rfl ?_
  refine w_sipush dX35_beginParagraph_26 (v := 256) (by decide) ?_
  obtain ⟨_, b1, hf⟩ := Option.bind_eq_some_iff.mp hf
  refine x_cnV hf (e_stV (Yc := YX35_glueOf) (ci := 34) (av := [.int (256 : Int32)]) (st := []) dX35_beginParagraph_29 q5457 mX35_glueOf rfl (k_ok_some b1).1 (k_ok_some b1).2) mX35_glueOf.2.2.1 mX35_glueOf.2.2.2.2.1 (Nat.le_of_ble_eq_true rfl) (Nat.le_of_ble_eq_true rfl) (fun q hq => pX35_glueOf (by omega) hdr hsL hq) (fun q2 hf => ?_)
  exact (pX35_beginParagraph_b32 hd hdr hsL hf).to ⟨rfl, rfl, trivial⟩
def fX35_beginParagraph (N : Nat) (sL : Nat → Int32 → Int64 → Int64 → eH → Option (Int32 × eH)) (this : Nat) (p0 : Int32) (h : eH) : Option (Unit × eH) :=
  (k_ok 34 h this).bind fun _ =>
  (fX35_mode this h).bind fun q2 =>
  if q2.1 = 0 then
    fX35_beginParagraph_b25 N sL this p0 q2.2
  else
    (g_I 34 q2.2 this 56).bind fun x4 =>
    (g_A 34 q2.2 this 53).bind fun a6 =>
    (g_I 34 q2.2 this 51).bind fun x8 =>
    (r_I 100 q2.2 a6 (x8 - (1 : Int32))).bind fun x10 =>
    if x4 ≤ x10 then
      fX35_beginParagraph_b32 N sL this p0 q2.2
    else
      fX35_beginParagraph_b25 N sL this p0 q2.2
theorem pX35_beginParagraph {w : eW} {d : Nat} {dr : Nat} (hd : dr + 12 ≤ d) (hdr : 12 ≤ dr) {N : Nat} {sL : Nat → Int32 → Int64 → Int64 → eH → Option (Int32 × eH)} (hsL : ∀ a t0 t1 t2 h q, sL a t0 t1 t2 h = some q → wm w dr YX35_layBox [.ref a, .int t0, .long t1, .long t2] h (e_is (e_rn c_I q))) {this : Nat} {p0 : Int32} {h : eH} {q} (hf : fX35_beginParagraph N sL this p0 h = some q) : wm w d YX35_beginParagraph [.ref this, .int p0] h (e_is (e_rn c_V q)) := by
  obtain ⟨d, rfl⟩ : ∃ e, d = e + 1 := ⟨d - 1, by omega⟩
  show wp w (d + 1) YX35_beginParagraph 0 [some (.ref this), some (.int p0), none] [] h _
  unfold fX35_beginParagraph at hf
  refine w_aload_n dX35_beginParagraph_0 rfl rfl ?_
  obtain ⟨_, b1, hf⟩ := Option.bind_eq_some_iff.mp hf
  refine x_cnI hf (e_stV (Yc := YX35_mode) (ci := 34) (av := []) (st := []) dX35_beginParagraph_1 q5417 mX35_mode rfl (k_ok_some b1).1 (k_ok_some b1).2) mX35_mode.2.2.1 mX35_mode.2.2.2.2.1 (Nat.le_of_ble_eq_true rfl) (Nat.le_of_ble_eq_true rfl) (fun q hq => pX35_mode (by omega) hq) (fun q2 hf => ?_)
  refine w_if_eq 25 dX35_beginParagraph_4 (by decide) (fun c3 => ?_) (fun c3 => ?_)
  · replace hf := (if_pos (show q2.1 = 0 from c3)).symm.trans hf
    exact (pX35_beginParagraph_b25 hd hdr hsL hf).to ⟨rfl, rfl, trivial⟩
  · replace hf := (if_neg (show ¬ (q2.1 = 0) from c3)).symm.trans hf
    refine w_aload_n dX35_beginParagraph_7 rfl rfl ?_
    obtain ⟨x4, b5, hf⟩ := Option.bind_eq_some_iff.mp hf
    refine GX35_370 b5 dX35_beginParagraph_8 rfl ?_
    refine w_aload_n dX35_beginParagraph_11 rfl rfl ?_
    obtain ⟨a6, b7, hf⟩ := Option.bind_eq_some_iff.mp hf
    refine GX35_130 b7 dX35_beginParagraph_12 rfl ?_
    refine w_aload_n dX35_beginParagraph_15 rfl rfl ?_
    obtain ⟨x8, b9, hf⟩ := Option.bind_eq_some_iff.mp hf
    refine GX35_366 b9 dX35_beginParagraph_16 rfl ?_
    refine w_iconst dX35_beginParagraph_19 (v := 1) (by decide) ?_
    refine w_isub dX35_beginParagraph_20 ?_
    obtain ⟨x10, b11, hf⟩ := Option.bind_eq_some_iff.mp hf
    refine x_rI b11 dX35_beginParagraph_21 ?_
    refine w_icmp_le 32 dX35_beginParagraph_22 (by decide) (fun c12 => ?_) (fun c12 => ?_)
    · replace hf := (if_pos (show x4 ≤ x10 from c12)).symm.trans hf
      exact (pX35_beginParagraph_b32 hd hdr hsL hf).to ⟨rfl, rfl, trivial⟩
    · replace hf := (if_neg (show ¬ (x4 ≤ x10) from c12)).symm.trans hf
      exact (pX35_beginParagraph_b25 hd hdr hsL hf).to ⟨rfl, rfl, trivial⟩
abbrev cX35_put : ByteArray := prog_37_method_27_code
def yX35_put : MethodName := ⟨RX35, "put", "(I)V"⟩
def YX35_put : eY := (yX35_put, cX35_put, 2, none, [])
theorem mX35_put : e_mv YX35_put RX35 1 := ⟨q5183, qs258, q5184, by decide, by decide +kernel, (e_sig (by decide +kernel))⟩
theorem dX35_put_0 : decode cX35_put 0 = .ok (.iload_n 1, 1) := dc_27 (by decide +kernel)
theorem dX35_put_1 : decode cX35_put 1 = .ok (.iconst (-1), 1) := dc_2 (by decide +kernel)
theorem dX35_put_2 : decode cX35_put 2 = .ok (.if_icmp .eq 30, 3) := dc_159 (a := 0) (b := 30) (v := 30) (by decide +kernel)
theorem dX35_put_5 : decode cX35_put 5 = .ok (.aload_n 0, 1) := dc_42 (by decide +kernel)
theorem dX35_put_6 : decode cX35_put 6 = .ok (.getfield 321, 3) := dc_180 (a := 1) (b := 65) (n := 321) (by decide +kernel)
theorem dX35_put_9 : decode cX35_put 9 = .ok (.ifCond .ne 23, 3) := dc_154 (a := 0) (b := 23) (v := 23) (by decide +kernel)
theorem dX35_put_12 : decode cX35_put 12 = .ok (.aload_n 0, 1) := dc_42 (by decide +kernel)
theorem dX35_put_13 : decode cX35_put 13 = .ok (.getfield 105, 3) := dc_180 (a := 0) (b := 105) (n := 105) (by decide +kernel)
theorem dX35_put_16 : decode cX35_put 16 = .ok (.aload_n 0, 1) := dc_42 (by decide +kernel)
theorem dX35_put_17 : decode cX35_put 17 = .ok (.getfield 347, 3) := dc_180 (a := 1) (b := 91) (n := 347) (by decide +kernel)
theorem dX35_put_20 : decode cX35_put 20 = .ok (.iload_n 1, 1) := dc_27 (by decide +kernel)
theorem dX35_put_21 : decode cX35_put 21 = .ok (.iastore, 1) := dc_79 (by decide +kernel)
theorem dX35_put_22 : decode cX35_put 22 = .ok (.aload_n 0, 1) := dc_42 (by decide +kernel)
theorem dX35_put_23 : decode cX35_put 23 = .ok (.dup, 1) := dc_89 (by decide +kernel)
theorem dX35_put_24 : decode cX35_put 24 = .ok (.getfield 347, 3) := dc_180 (a := 1) (b := 91) (n := 347) (by decide +kernel)
theorem dX35_put_27 : decode cX35_put 27 = .ok (.iconst 1, 1) := dc_4 (by decide +kernel)
theorem dX35_put_28 : decode cX35_put 28 = .ok (.iadd, 1) := dc_96 (by decide +kernel)
theorem dX35_put_29 : decode cX35_put 29 = .ok (.putfield 347, 3) := dc_181 (a := 1) (b := 91) (n := 347) (by decide +kernel)
theorem dX35_put_32 : decode cX35_put 32 = .ok (.return_, 1) := dc_177 (by decide +kernel)
theorem GX35_105 {w : eW} {d : Nat} {Y : eY} {pc : Nat} {ls : eL} {st : List Value} {h : eH} {Q : eO → eH → Prop} {a : Nat} {x : Nat} (hf : g_A 34 h a 38 = some x) (hd : decode Y.2.1 pc = .ok (.getfield 105, 3)) (hY : Y.1.cls = RX35) (kk : wp w d Y (pc + 3) ls (.ref x :: st) h Q) : wp w d Y pc ls (.ref a :: st) h Q := x_gA (ci := 34) (k := 38) hf hd rfl (by decide) (by rw [hY]; exact q4540) kk
theorem GX35_347 {w : eW} {d : Nat} {Y : eY} {pc : Nat} {ls : eL} {st : List Value} {h : eH} {Q : eO → eH → Prop} {a : Nat} {x : Int32} (hf : g_I 34 h a 37 = some x) (hd : decode Y.2.1 pc = .ok (.getfield 347, 3)) (hY : Y.1.cls = RX35) (kk : wp w d Y (pc + 3) ls (.int x :: st) h Q) : wp w d Y pc ls (.ref a :: st) h Q := x_gI (ci := 34) (k := 37) hf hd rfl (by decide) (by rw [hY]; exact q4539) kk
def fX35_put_b32  (h : eH) : Option (Unit × eH) :=
  some ((), h)
theorem pX35_put_b32 {w : eW} {d : Nat} (hd : 0 ≤ d)  {h : eH} {q} (hf : fX35_put_b32  h = some q) : wp w d YX35_put 32 [none, none] [] h (e_is (e_rn c_V q)) := by
  unfold fX35_put_b32 at hf
  cases hf
  exact w_vret dX35_put_32 rfl rfl
def fX35_put (this : Nat) (p0 : Int32) (h : eH) : Option (Unit × eH) :=
  if p0 = (-1 : Int32) then
    fX35_put_b32 h
  else
    (g_I 34 h this 46).bind fun x2 =>
    if ¬ x2 = 0 then
      fX35_put_b32 h
    else
      (g_A 34 h this 38).bind fun a5 =>
      (g_I 34 h this 37).bind fun x7 =>
      (q_V 100 h a5 x7 (.int p0)).bind fun h9 =>
      (g_I 34 h9 this 37).bind fun x11 =>
      (p_V 34 h9 this 37 (.int (x11 + (1 : Int32)))).bind fun h13 =>
      fX35_put_b32 h13
theorem pX35_put {w : eW} {d : Nat} (hd : 0 ≤ d) {this : Nat} {p0 : Int32} {h : eH} {q} (hf : fX35_put this p0 h = some q) : wm w d YX35_put [.ref this, .int p0] h (e_is (e_rn c_V q)) := by
  show wp w d YX35_put 0 [some (.ref this), some (.int p0)] [] h _
  unfold fX35_put at hf
  refine w_iload_n dX35_put_0 rfl rfl ?_
  refine w_iconst dX35_put_1 (v := -1) (by decide) ?_
  refine w_icmp_eq 32 dX35_put_2 (by decide) (fun c1 => ?_) (fun c1 => ?_)
  · replace hf := (if_pos (show p0 = (-1 : Int32) from c1)).symm.trans hf
    exact (pX35_put_b32 hd hf).to trivial
  · replace hf := (if_neg (show ¬ (p0 = (-1 : Int32)) from c1)).symm.trans hf
    refine w_aload_n dX35_put_5 rfl rfl ?_
    obtain ⟨x2, b3, hf⟩ := Option.bind_eq_some_iff.mp hf
    refine GX35_321 b3 dX35_put_6 rfl ?_
    refine w_if_ne 32 dX35_put_9 (by decide) (fun c4 => ?_) (fun c4 => ?_)
    · replace hf := (if_pos (show ¬ x2 = 0 from c4)).symm.trans hf
      exact (pX35_put_b32 hd hf).to trivial
    · replace hf := (if_neg (show ¬ (¬ x2 = 0) from (fun z => z c4))).symm.trans hf
      refine w_aload_n dX35_put_12 rfl rfl ?_
      obtain ⟨a5, b6, hf⟩ := Option.bind_eq_some_iff.mp hf
      refine GX35_105 b6 dX35_put_13 rfl ?_
      refine w_aload_n dX35_put_16 rfl rfl ?_
      obtain ⟨x7, b8, hf⟩ := Option.bind_eq_some_iff.mp hf
      refine GX35_347 b8 dX35_put_17 rfl ?_
      refine w_iload_n dX35_put_20 rfl rfl ?_
      obtain ⟨h9, b10, hf⟩ := Option.bind_eq_some_iff.mp hf
      refine x_qI b10 dX35_put_21 ?_
      refine w_aload_n dX35_put_22 rfl rfl ?_
      refine w_dup dX35_put_23 rfl ?_
      obtain ⟨x11, b12, hf⟩ := Option.bind_eq_some_iff.mp hf
      refine GX35_347 b12 dX35_put_24 rfl ?_
      refine w_iconst dX35_put_27 (v := 1) (by decide) ?_
      refine w_iadd dX35_put_28 ?_
      obtain ⟨h13, b14, hf⟩ := Option.bind_eq_some_iff.mp hf
      refine SX35_347 b14 dX35_put_29 rfl ?_
      exact (pX35_put_b32 hd hf).to trivial
abbrev cX35_category : ByteArray := prog_37_method_21_code
def yX35_category : MethodName := ⟨RX35, "category", "(I)I"⟩
def YX35_category : eY := (yX35_category, cX35_category, 2, (Option.some FieldType.int), [])
theorem mX35_category : e_mv YX35_category RX35 1 := ⟨q5095, qs240, q5096, by decide, by decide +kernel, (e_sig (by decide +kernel))⟩
theorem dX35_category_0 : decode cX35_category 0 = .ok (.aload_n 0, 1) := dc_42 (by decide +kernel)
theorem dX35_category_1 : decode cX35_category 1 = .ok (.sipush 1460, 3) := dc_17 (a := 5) (b := 180) (v := 1460) (by decide +kernel)
theorem dX35_category_4 : decode cX35_category 4 = .ok (.iload_n 1, 1) := dc_27 (by decide +kernel)
theorem dX35_category_5 : decode cX35_category 5 = .ok (.iadd, 1) := dc_96 (by decide +kernel)
theorem dX35_category_6 : decode cX35_category 6 = .ok (.invokevirtual 431, 3) := dc_182 (a := 1) (b := 175) (n := 431) (by decide +kernel)
theorem dX35_category_9 : decode cX35_category 9 = .ok (.ireturn, 1) := dc_172 (by decide +kernel)
def fX35_category (this : Nat) (p0 : Int32) (h : eH) : Option (Int32 × eH) :=
  (k_ok 34 h this).bind fun _ =>
  (fX35_now this ((1460 : Int32) + p0) h).bind fun q2 =>
  some (q2.1, q2.2)
theorem pX35_category {w : eW} {d : Nat} (hd : 1 ≤ d) {this : Nat} {p0 : Int32} {h : eH} {q} (hf : fX35_category this p0 h = some q) : wm w d YX35_category [.ref this, .int p0] h (e_is (e_rn c_I q)) := by
  obtain ⟨d, rfl⟩ : ∃ e, d = e + 1 := ⟨d - 1, by omega⟩
  show wp w (d + 1) YX35_category 0 [some (.ref this), some (.int p0)] [] h _
  unfold fX35_category at hf
  refine w_aload_n dX35_category_0 rfl rfl ?_
  refine w_sipush dX35_category_1 (v := 1460) (by decide) ?_
  refine w_iload_n dX35_category_4 rfl rfl ?_
  refine w_iadd dX35_category_5 ?_
  obtain ⟨_, b1, hf⟩ := Option.bind_eq_some_iff.mp hf
  refine x_cnI hf (e_stV (Yc := YX35_now) (ci := 34) (av := [.int ((1460 : Int32) + p0)]) (st := []) dX35_category_6 q5097 mX35_now rfl (k_ok_some b1).1 (k_ok_some b1).2) mX35_now.2.2.1 mX35_now.2.2.2.2.1 (Nat.le_of_ble_eq_true rfl) (Nat.le_of_ble_eq_true rfl) (fun q hq => pX35_now (by omega) hq) (fun q2 hf => ?_)
  cases hf
  exact w_iret dX35_category_9 rfl rfl rfl
abbrev cX35_spell : ByteArray := prog_37_method_20_code
def yX35_spell : MethodName := ⟨RX35, "spell", "(I)V"⟩
def YX35_spell : eY := (yX35_spell, cX35_spell, 2, none, [])
theorem mX35_spell : e_mv YX35_spell RX35 1 := ⟨q5107, qs243, q5108, by decide, by decide +kernel, (e_sig (by decide +kernel))⟩
theorem dX35_spell_0 : decode cX35_spell 0 = .ok (.aload_n 0, 1) := dc_42 (by decide +kernel)
theorem dX35_spell_1 : decode cX35_spell 1 = .ok (.getfield 413, 3) := dc_180 (a := 1) (b := 157) (n := 413) (by decide +kernel)
theorem dX35_spell_4 : decode cX35_spell 4 = .ok (.bipush 40, 2) := dc_16 (a := 40) (v := 40) (by decide +kernel)
theorem dX35_spell_6 : decode cX35_spell 6 = .ok (.if_icmp .ne 11, 3) := dc_160 (a := 0) (b := 11) (v := 11) (by decide +kernel)
theorem dX35_spell_9 : decode cX35_spell 9 = .ok (.aload_n 0, 1) := dc_42 (by decide +kernel)
theorem dX35_spell_10 : decode cX35_spell 10 = .ok (.iconst 2, 1) := dc_5 (by decide +kernel)
theorem dX35_spell_11 : decode cX35_spell 11 = .ok (.invokevirtual 428, 3) := dc_182 (a := 1) (b := 172) (n := 428) (by decide +kernel)
theorem dX35_spell_14 : decode cX35_spell 14 = .ok (.goto 23, 3) := dc_167 (a := 0) (b := 23) (v := 23) (by decide +kernel)
theorem dX35_spell_17 : decode cX35_spell 17 = .ok (.aload_n 0, 1) := dc_42 (by decide +kernel)
theorem dX35_spell_18 : decode cX35_spell 18 = .ok (.getfield 58, 3) := dc_180 (a := 0) (b := 58) (n := 58) (by decide +kernel)
theorem dX35_spell_21 : decode cX35_spell 21 = .ok (.aload_n 0, 1) := dc_42 (by decide +kernel)
theorem dX35_spell_22 : decode cX35_spell 22 = .ok (.getfield 413, 3) := dc_180 (a := 1) (b := 157) (n := 413) (by decide +kernel)
theorem dX35_spell_25 : decode cX35_spell 25 = .ok (.iload_n 1, 1) := dc_27 (by decide +kernel)
theorem dX35_spell_26 : decode cX35_spell 26 = .ok (.iastore, 1) := dc_79 (by decide +kernel)
theorem dX35_spell_27 : decode cX35_spell 27 = .ok (.aload_n 0, 1) := dc_42 (by decide +kernel)
theorem dX35_spell_28 : decode cX35_spell 28 = .ok (.dup, 1) := dc_89 (by decide +kernel)
theorem dX35_spell_29 : decode cX35_spell 29 = .ok (.getfield 413, 3) := dc_180 (a := 1) (b := 157) (n := 413) (by decide +kernel)
theorem dX35_spell_32 : decode cX35_spell 32 = .ok (.iconst 1, 1) := dc_4 (by decide +kernel)
theorem dX35_spell_33 : decode cX35_spell 33 = .ok (.iadd, 1) := dc_96 (by decide +kernel)
theorem dX35_spell_34 : decode cX35_spell 34 = .ok (.putfield 413, 3) := dc_181 (a := 1) (b := 157) (n := 413) (by decide +kernel)
theorem dX35_spell_37 : decode cX35_spell 37 = .ok (.return_, 1) := dc_177 (by decide +kernel)
def fX35_spell_b37  (h : eH) : Option (Unit × eH) :=
  some ((), h)
theorem pX35_spell_b37 {w : eW} {d : Nat} (hd : 1 ≤ d + 1)  {h : eH} {q} (hf : fX35_spell_b37  h = some q) : wp w (d + 1) YX35_spell 37 [none, none] [] h (e_is (e_rn c_V q)) := by
  unfold fX35_spell_b37 at hf
  cases hf
  exact w_vret dX35_spell_37 rfl rfl
def fX35_spell (this : Nat) (p0 : Int32) (h : eH) : Option (Unit × eH) :=
  (g_I 34 h this 19).bind fun x1 =>
  if ¬ x1 = (40 : Int32) then
    (g_A 34 h this 18).bind fun a4 =>
    (g_I 34 h this 19).bind fun x6 =>
    (q_V 100 h a4 x6 (.int p0)).bind fun h8 =>
    (g_I 34 h8 this 19).bind fun x10 =>
    (p_V 34 h8 this 19 (.int (x10 + (1 : Int32)))).bind fun h12 =>
    fX35_spell_b37 h12
  else
    (k_ok 34 h this).bind fun _ =>
    (fX35_fail this (2 : Int32) h).bind fun q15 =>
    fX35_spell_b37 q15.2
theorem pX35_spell {w : eW} {d : Nat} (hd : 1 ≤ d) {this : Nat} {p0 : Int32} {h : eH} {q} (hf : fX35_spell this p0 h = some q) : wm w d YX35_spell [.ref this, .int p0] h (e_is (e_rn c_V q)) := by
  obtain ⟨d, rfl⟩ : ∃ e, d = e + 1 := ⟨d - 1, by omega⟩
  show wp w (d + 1) YX35_spell 0 [some (.ref this), some (.int p0)] [] h _
  unfold fX35_spell at hf
  refine w_aload_n dX35_spell_0 rfl rfl ?_
  obtain ⟨x1, b2, hf⟩ := Option.bind_eq_some_iff.mp hf
  refine GX35_413 b2 dX35_spell_1 rfl ?_
  refine w_bipush dX35_spell_4 (v := 40) (by decide) ?_
  refine w_icmp_ne 17 dX35_spell_6 (by decide) (fun c3 => ?_) (fun c3 => ?_)
  · replace hf := (if_pos (show ¬ x1 = (40 : Int32) from c3)).symm.trans hf
    refine w_aload_n dX35_spell_17 rfl rfl ?_
    obtain ⟨a4, b5, hf⟩ := Option.bind_eq_some_iff.mp hf
    refine GX35_58 b5 dX35_spell_18 rfl ?_
    refine w_aload_n dX35_spell_21 rfl rfl ?_
    obtain ⟨x6, b7, hf⟩ := Option.bind_eq_some_iff.mp hf
    refine GX35_413 b7 dX35_spell_22 rfl ?_
    refine w_iload_n dX35_spell_25 rfl rfl ?_
    obtain ⟨h8, b9, hf⟩ := Option.bind_eq_some_iff.mp hf
    refine x_qI b9 dX35_spell_26 ?_
    refine w_aload_n dX35_spell_27 rfl rfl ?_
    refine w_dup dX35_spell_28 rfl ?_
    obtain ⟨x10, b11, hf⟩ := Option.bind_eq_some_iff.mp hf
    refine GX35_413 b11 dX35_spell_29 rfl ?_
    refine w_iconst dX35_spell_32 (v := 1) (by decide) ?_
    refine w_iadd dX35_spell_33 ?_
    obtain ⟨h12, b13, hf⟩ := Option.bind_eq_some_iff.mp hf
    refine SX35_413 b13 dX35_spell_34 rfl ?_
    exact (pX35_spell_b37 hd hf).to trivial
  · replace hf := (if_neg (show ¬ (¬ x1 = (40 : Int32)) from (fun z => z c3))).symm.trans hf
    refine w_aload_n dX35_spell_9 rfl rfl ?_
    refine w_iconst dX35_spell_10 (v := 2) (by decide) ?_
    obtain ⟨_, b14, hf⟩ := Option.bind_eq_some_iff.mp hf
    refine x_cnV hf (e_stV (Yc := YX35_fail) (ci := 34) (av := [.int (2 : Int32)]) (st := []) dX35_spell_11 q5109 mX35_fail rfl (k_ok_some b14).1 (k_ok_some b14).2) mX35_fail.2.2.1 mX35_fail.2.2.2.2.1 (Nat.le_of_ble_eq_true rfl) (Nat.le_of_ble_eq_true rfl) (fun q hq => pX35_fail (by omega) hq) (fun q15 hf => ?_)
    refine w_goto 37 dX35_spell_14 (by decide) ?_
    exact (pX35_spell_b37 hd hf).to trivial
abbrev cX35_nameToken : ByteArray := prog_37_method_19_code
def yX35_nameToken : MethodName := ⟨RX35, "nameToken", "()I"⟩
def YX35_nameToken : eY := (yX35_nameToken, cX35_nameToken, 4, (Option.some FieldType.int), [])
theorem mX35_nameToken : e_mv YX35_nameToken RX35 0 := ⟨q5115, qs245, q5116, by decide, by decide +kernel, (e_sig (by decide +kernel))⟩
theorem dX35_nameToken_0 : decode cX35_nameToken 0 = .ok (.iconst 0, 1) := dc_3 (by decide +kernel)
theorem dX35_nameToken_1 : decode cX35_nameToken 1 = .ok (.istore_n 1, 1) := dc_60 (by decide +kernel)
theorem dX35_nameToken_2 : decode cX35_nameToken 2 = .ok (.iload_n 1, 1) := dc_27 (by decide +kernel)
theorem dX35_nameToken_3 : decode cX35_nameToken 3 = .ok (.aload_n 0, 1) := dc_42 (by decide +kernel)
theorem dX35_nameToken_4 : decode cX35_nameToken 4 = .ok (.getfield 360, 3) := dc_180 (a := 1) (b := 104) (n := 360) (by decide +kernel)
theorem dX35_nameToken_7 : decode cX35_nameToken 7 = .ok (.if_icmp .ge 87, 3) := dc_162 (a := 0) (b := 87) (v := 87) (by decide +kernel)
theorem dX35_nameToken_10 : decode cX35_nameToken 10 = .ok (.aload_n 0, 1) := dc_42 (by decide +kernel)
theorem dX35_nameToken_11 : decode cX35_nameToken 11 = .ok (.getfield 55, 3) := dc_180 (a := 0) (b := 55) (n := 55) (by decide +kernel)
theorem dX35_nameToken_14 : decode cX35_nameToken 14 = .ok (.iload_n 1, 1) := dc_27 (by decide +kernel)
theorem dX35_nameToken_15 : decode cX35_nameToken 15 = .ok (.iaload, 1) := dc_46 (by decide +kernel)
theorem dX35_nameToken_16 : decode cX35_nameToken 16 = .ok (.aload_n 0, 1) := dc_42 (by decide +kernel)
theorem dX35_nameToken_17 : decode cX35_nameToken 17 = .ok (.getfield 413, 3) := dc_180 (a := 1) (b := 157) (n := 413) (by decide +kernel)
theorem dX35_nameToken_20 : decode cX35_nameToken 20 = .ok (.if_icmp .ne 7, 3) := dc_160 (a := 0) (b := 7) (v := 7) (by decide +kernel)
theorem dX35_nameToken_23 : decode cX35_nameToken 23 = .ok (.iconst 1, 1) := dc_4 (by decide +kernel)
theorem dX35_nameToken_24 : decode cX35_nameToken 24 = .ok (.goto 4, 3) := dc_167 (a := 0) (b := 4) (v := 4) (by decide +kernel)
theorem dX35_nameToken_27 : decode cX35_nameToken 27 = .ok (.iconst 0, 1) := dc_3 (by decide +kernel)
theorem dX35_nameToken_28 : decode cX35_nameToken 28 = .ok (.istore_n 2, 1) := dc_61 (by decide +kernel)
theorem dX35_nameToken_29 : decode cX35_nameToken 29 = .ok (.iconst 0, 1) := dc_3 (by decide +kernel)
theorem dX35_nameToken_30 : decode cX35_nameToken 30 = .ok (.istore_n 3, 1) := dc_62 (by decide +kernel)
theorem dX35_nameToken_31 : decode cX35_nameToken 31 = .ok (.iload_n 3, 1) := dc_29 (by decide +kernel)
theorem dX35_nameToken_32 : decode cX35_nameToken 32 = .ok (.aload_n 0, 1) := dc_42 (by decide +kernel)
theorem dX35_nameToken_33 : decode cX35_nameToken 33 = .ok (.getfield 413, 3) := dc_180 (a := 1) (b := 157) (n := 413) (by decide +kernel)
theorem dX35_nameToken_36 : decode cX35_nameToken 36 = .ok (.if_icmp .ge 43, 3) := dc_162 (a := 0) (b := 43) (v := 43) (by decide +kernel)
theorem dX35_nameToken_39 : decode cX35_nameToken 39 = .ok (.iload_n 2, 1) := dc_28 (by decide +kernel)
theorem dX35_nameToken_40 : decode cX35_nameToken 40 = .ok (.ifCond .eq 39, 3) := dc_153 (a := 0) (b := 39) (v := 39) (by decide +kernel)
theorem dX35_nameToken_43 : decode cX35_nameToken 43 = .ok (.aload_n 0, 1) := dc_42 (by decide +kernel)
theorem dX35_nameToken_44 : decode cX35_nameToken 44 = .ok (.getfield 52, 3) := dc_180 (a := 0) (b := 52) (n := 52) (by decide +kernel)
theorem dX35_nameToken_47 : decode cX35_nameToken 47 = .ok (.bipush 40, 2) := dc_16 (a := 40) (v := 40) (by decide +kernel)
theorem dX35_nameToken_49 : decode cX35_nameToken 49 = .ok (.iload_n 1, 1) := dc_27 (by decide +kernel)
theorem dX35_nameToken_50 : decode cX35_nameToken 50 = .ok (.imul, 1) := dc_104 (by decide +kernel)
theorem dX35_nameToken_51 : decode cX35_nameToken 51 = .ok (.iload_n 3, 1) := dc_29 (by decide +kernel)
theorem dX35_nameToken_52 : decode cX35_nameToken 52 = .ok (.iadd, 1) := dc_96 (by decide +kernel)
theorem dX35_nameToken_53 : decode cX35_nameToken 53 = .ok (.baload, 1) := dc_51 (by decide +kernel)
theorem dX35_nameToken_54 : decode cX35_nameToken 54 = .ok (.sipush 255, 3) := dc_17 (a := 0) (b := 255) (v := 255) (by decide +kernel)
theorem dX35_nameToken_57 : decode cX35_nameToken 57 = .ok (.iand, 1) := dc_126 (by decide +kernel)
theorem dX35_nameToken_58 : decode cX35_nameToken 58 = .ok (.aload_n 0, 1) := dc_42 (by decide +kernel)
theorem dX35_nameToken_59 : decode cX35_nameToken 59 = .ok (.getfield 58, 3) := dc_180 (a := 0) (b := 58) (n := 58) (by decide +kernel)
theorem dX35_nameToken_62 : decode cX35_nameToken 62 = .ok (.iload_n 3, 1) := dc_29 (by decide +kernel)
theorem dX35_nameToken_63 : decode cX35_nameToken 63 = .ok (.iaload, 1) := dc_46 (by decide +kernel)
theorem dX35_nameToken_64 : decode cX35_nameToken 64 = .ok (.if_icmp .ne 7, 3) := dc_160 (a := 0) (b := 7) (v := 7) (by decide +kernel)
theorem dX35_nameToken_67 : decode cX35_nameToken 67 = .ok (.iconst 1, 1) := dc_4 (by decide +kernel)
theorem dX35_nameToken_68 : decode cX35_nameToken 68 = .ok (.goto 4, 3) := dc_167 (a := 0) (b := 4) (v := 4) (by decide +kernel)
theorem dX35_nameToken_71 : decode cX35_nameToken 71 = .ok (.iconst 0, 1) := dc_3 (by decide +kernel)
theorem dX35_nameToken_72 : decode cX35_nameToken 72 = .ok (.istore_n 2, 1) := dc_61 (by decide +kernel)
theorem dX35_nameToken_73 : decode cX35_nameToken 73 = .ok (.iinc 3 1, 3) := dc_132 (a := 3) (b := 1) (v := 1) (by decide +kernel)
theorem dX35_nameToken_76 : decode cX35_nameToken 76 = .ok (.goto (-45), 3) := dc_167 (a := 255) (b := 211) (v := -45) (by decide +kernel)
theorem dX35_nameToken_79 : decode cX35_nameToken 79 = .ok (.iload_n 2, 1) := dc_28 (by decide +kernel)
theorem dX35_nameToken_80 : decode cX35_nameToken 80 = .ok (.ifCond .eq 8, 3) := dc_153 (a := 0) (b := 8) (v := 8) (by decide +kernel)
theorem dX35_nameToken_83 : decode cX35_nameToken 83 = .ok (.ldc 7, 2) := dc_18 (a := 7) (by decide +kernel)
theorem dX35_nameToken_85 : decode cX35_nameToken 85 = .ok (.iload_n 1, 1) := dc_27 (by decide +kernel)
theorem dX35_nameToken_86 : decode cX35_nameToken 86 = .ok (.iadd, 1) := dc_96 (by decide +kernel)
theorem dX35_nameToken_87 : decode cX35_nameToken 87 = .ok (.ireturn, 1) := dc_172 (by decide +kernel)
theorem dX35_nameToken_88 : decode cX35_nameToken 88 = .ok (.iinc 1 1, 3) := dc_132 (a := 1) (b := 1) (v := 1) (by decide +kernel)
theorem dX35_nameToken_91 : decode cX35_nameToken 91 = .ok (.goto (-89), 3) := dc_167 (a := 255) (b := 167) (v := -89) (by decide +kernel)
theorem dX35_nameToken_94 : decode cX35_nameToken 94 = .ok (.aload_n 0, 1) := dc_42 (by decide +kernel)
theorem dX35_nameToken_95 : decode cX35_nameToken 95 = .ok (.getfield 360, 3) := dc_180 (a := 1) (b := 104) (n := 360) (by decide +kernel)
theorem dX35_nameToken_98 : decode cX35_nameToken 98 = .ok (.bipush 96, 2) := dc_16 (a := 96) (v := 96) (by decide +kernel)
theorem dX35_nameToken_100 : decode cX35_nameToken 100 = .ok (.isub, 1) := dc_100 (by decide +kernel)
theorem dX35_nameToken_101 : decode cX35_nameToken 101 = .ok (.sipush 1000, 3) := dc_17 (a := 3) (b := 232) (v := 1000) (by decide +kernel)
theorem dX35_nameToken_104 : decode cX35_nameToken 104 = .ok (.if_icmp .ne 10, 3) := dc_160 (a := 0) (b := 10) (v := 10) (by decide +kernel)
theorem dX35_nameToken_107 : decode cX35_nameToken 107 = .ok (.aload_n 0, 1) := dc_42 (by decide +kernel)
theorem dX35_nameToken_108 : decode cX35_nameToken 108 = .ok (.iconst 2, 1) := dc_5 (by decide +kernel)
theorem dX35_nameToken_109 : decode cX35_nameToken 109 = .ok (.invokevirtual 428, 3) := dc_182 (a := 1) (b := 172) (n := 428) (by decide +kernel)
theorem dX35_nameToken_112 : decode cX35_nameToken 112 = .ok (.iconst (-1), 1) := dc_2 (by decide +kernel)
theorem dX35_nameToken_113 : decode cX35_nameToken 113 = .ok (.ireturn, 1) := dc_172 (by decide +kernel)
theorem dX35_nameToken_114 : decode cX35_nameToken 114 = .ok (.aload_n 0, 1) := dc_42 (by decide +kernel)
theorem dX35_nameToken_115 : decode cX35_nameToken 115 = .ok (.invokevirtual 425, 3) := dc_182 (a := 1) (b := 169) (n := 425) (by decide +kernel)
theorem dX35_nameToken_118 : decode cX35_nameToken 118 = .ok (.istore_n 1, 1) := dc_60 (by decide +kernel)
theorem dX35_nameToken_119 : decode cX35_nameToken 119 = .ok (.iconst 0, 1) := dc_3 (by decide +kernel)
theorem dX35_nameToken_120 : decode cX35_nameToken 120 = .ok (.istore_n 2, 1) := dc_61 (by decide +kernel)
theorem dX35_nameToken_121 : decode cX35_nameToken 121 = .ok (.iload_n 2, 1) := dc_28 (by decide +kernel)
theorem dX35_nameToken_122 : decode cX35_nameToken 122 = .ok (.aload_n 0, 1) := dc_42 (by decide +kernel)
theorem dX35_nameToken_123 : decode cX35_nameToken 123 = .ok (.getfield 323, 3) := dc_180 (a := 1) (b := 67) (n := 323) (by decide +kernel)
theorem dX35_nameToken_126 : decode cX35_nameToken 126 = .ok (.if_icmp .gt 22, 3) := dc_163 (a := 0) (b := 22) (v := 22) (by decide +kernel)
theorem dX35_nameToken_129 : decode cX35_nameToken 129 = .ok (.aload_n 0, 1) := dc_42 (by decide +kernel)
theorem dX35_nameToken_130 : decode cX35_nameToken 130 = .ok (.getfield 65, 3) := dc_180 (a := 0) (b := 65) (n := 65) (by decide +kernel)
theorem dX35_nameToken_133 : decode cX35_nameToken 133 = .ok (.sipush 3812, 3) := dc_17 (a := 14) (b := 228) (v := 3812) (by decide +kernel)
theorem dX35_nameToken_136 : decode cX35_nameToken 136 = .ok (.iload_n 2, 1) := dc_28 (by decide +kernel)
theorem dX35_nameToken_137 : decode cX35_nameToken 137 = .ok (.imul, 1) := dc_104 (by decide +kernel)
theorem dX35_nameToken_138 : decode cX35_nameToken 138 = .ok (.iload_n 1, 1) := dc_27 (by decide +kernel)
theorem dX35_nameToken_139 : decode cX35_nameToken 139 = .ok (.iadd, 1) := dc_96 (by decide +kernel)
theorem dX35_nameToken_140 : decode cX35_nameToken 140 = .ok (.iconst 0, 1) := dc_3 (by decide +kernel)
theorem dX35_nameToken_141 : decode cX35_nameToken 141 = .ok (.iastore, 1) := dc_79 (by decide +kernel)
theorem dX35_nameToken_142 : decode cX35_nameToken 142 = .ok (.iinc 2 1, 3) := dc_132 (a := 2) (b := 1) (v := 1) (by decide +kernel)
theorem dX35_nameToken_145 : decode cX35_nameToken 145 = .ok (.goto (-24), 3) := dc_167 (a := 255) (b := 232) (v := -24) (by decide +kernel)
theorem dX35_nameToken_148 : decode cX35_nameToken 148 = .ok (.ldc 7, 2) := dc_18 (a := 7) (by decide +kernel)
theorem dX35_nameToken_150 : decode cX35_nameToken 150 = .ok (.iload_n 1, 1) := dc_27 (by decide +kernel)
theorem dX35_nameToken_151 : decode cX35_nameToken 151 = .ok (.iadd, 1) := dc_96 (by decide +kernel)
theorem dX35_nameToken_152 : decode cX35_nameToken 152 = .ok (.ireturn, 1) := dc_172 (by decide +kernel)
def fX35_nameToken_b72 (N : Nat) (k31 : Nat → Int32 → Int32 → Int32 → eH → Option (Int32 × eH)) (l0 : Nat) (l1 : Int32) (l3 : Int32) (s0 : Int32) (h : eH) : Option (Int32 × eH) :=
  k31 l0 l1 s0 (l3 + (1 : Int32)) h
theorem pX35_nameToken_b72 {w : eW} {d : Nat} (hd : 1 ≤ d + 1) {N : Nat} {k31 : Nat → Int32 → Int32 → Int32 → eH → Option (Int32 × eH)} (hk31 : ∀ l0 l1 l2 l3 h q, k31 l0 l1 l2 l3 h = some q → wp w (d + 1) YX35_nameToken 31 [some (.ref l0), some (.int l1), some (.int l2), some (.int l3)] [] h (e_is (e_rn c_I q))) {l0 : Nat} {l1 : Int32} {l3 : Int32} {s0 : Int32} {h : eH} {q} (hf : fX35_nameToken_b72 N k31 l0 l1 l3 s0 h = some q) : wp w (d + 1) YX35_nameToken 72 [some (.ref l0), some (.int l1), none, some (.int l3)] [.int s0] h (e_is (e_rn c_I q)) := by
  unfold fX35_nameToken_b72 at hf
  refine w_istore_n dX35_nameToken_72 rfl (by decide) (ls' := [some (.ref l0), some (.int l1), some (.int s0), some (.int l3)]) rfl ?_
  refine w_iinc dX35_nameToken_73 (v := (l3 + (1 : Int32))) rfl rfl (by decide) (ls' := [some (.ref l0), some (.int l1), some (.int s0), some (.int (l3 + (1 : Int32)))]) rfl ?_
  refine w_goto 31 dX35_nameToken_76 (by decide) ?_
  exact (hk31 _ _ _ _ _ _ hf).to ⟨rfl, rfl, rfl, rfl, trivial⟩
def fX35_nameToken_b79 (N : Nat) (k2 : Nat → Int32 → eH → Option (Int32 × eH)) (l0 : Nat) (l1 : Int32) (l2 : Int32) (h : eH) : Option (Int32 × eH) :=
  if l2 = 0 then
    k2 l0 (l1 + (1 : Int32)) h
  else
    some (((65536 : Int32) + l1), h)
theorem pX35_nameToken_b79 {w : eW} {d : Nat} (hd : 1 ≤ d + 1) {N : Nat} {k2 : Nat → Int32 → eH → Option (Int32 × eH)} (hk2 : ∀ l0 l1 h q, k2 l0 l1 h = some q → wp w (d + 1) YX35_nameToken 2 [some (.ref l0), some (.int l1), none, none] [] h (e_is (e_rn c_I q))) {l0 : Nat} {l1 : Int32} {l2 : Int32} {h : eH} {q} (hf : fX35_nameToken_b79 N k2 l0 l1 l2 h = some q) : wp w (d + 1) YX35_nameToken 79 [some (.ref l0), some (.int l1), some (.int l2), none] [] h (e_is (e_rn c_I q)) := by
  unfold fX35_nameToken_b79 at hf
  refine w_iload_n dX35_nameToken_79 rfl rfl ?_
  refine w_if_eq 88 dX35_nameToken_80 (by decide) (fun c1 => ?_) (fun c1 => ?_)
  · replace hf := (if_pos (show l2 = 0 from c1)).symm.trans hf
    refine w_iinc dX35_nameToken_88 (v := (l1 + (1 : Int32))) rfl rfl (by decide) (ls' := [some (.ref l0), some (.int (l1 + (1 : Int32))), some (.int l2), none]) rfl ?_
    refine w_goto 2 dX35_nameToken_91 (by decide) ?_
    exact (hk2 _ _ _ _ hf).to ⟨rfl, rfl, trivial⟩
  · replace hf := (if_neg (show ¬ (l2 = 0) from c1)).symm.trans hf
    refine w_ldc dX35_nameToken_83 q4119 ?_
    refine w_iload_n dX35_nameToken_85 rfl rfl ?_
    refine w_iadd dX35_nameToken_86 ?_
    cases hf
    exact w_iret dX35_nameToken_87 rfl rfl rfl
def fX35_nameToken_b31 (N : Nat) (k2 : Nat → Int32 → eH → Option (Int32 × eH)) : Nat → Nat → Int32 → Int32 → Int32 → eH → Option (Int32 × eH)
  | 0, _, _, _, _, _ => none
  | n + 1, l0, l1, l2, l3, h =>
    (g_I 34 h l0 19).bind fun x1 =>
    if x1 ≤ l3 then
      fX35_nameToken_b79 N k2 l0 l1 l2 h
    else
      if l2 = 0 then
        fX35_nameToken_b79 N k2 l0 l1 l2 h
      else
        (g_A 34 h l0 16).bind fun a5 =>
        (r_I 102 h a5 (((40 : Int32) * l1) + l3)).bind fun x7 =>
        (g_A 34 h l0 18).bind fun a9 =>
        (r_I 100 h a9 l3).bind fun x11 =>
        if ¬ (x7 &&& (255 : Int32)) = x11 then
          fX35_nameToken_b72 N (fX35_nameToken_b31 N k2 n) l0 l1 l3 (0 : Int32) h
        else
          fX35_nameToken_b72 N (fX35_nameToken_b31 N k2 n) l0 l1 l3 (1 : Int32) h
theorem pX35_nameToken_b31 {w : eW} {d : Nat} (hd : 1 ≤ d + 1) {N : Nat} {k2 : Nat → Int32 → eH → Option (Int32 × eH)} (hk2 : ∀ l0 l1 h q, k2 l0 l1 h = some q → wp w (d + 1) YX35_nameToken 2 [some (.ref l0), some (.int l1), none, none] [] h (e_is (e_rn c_I q))) : ∀ (n : Nat) l0 l1 l2 l3 h q, fX35_nameToken_b31 N k2 n l0 l1 l2 l3 h = some q → wp w (d + 1) YX35_nameToken 31 [some (.ref l0), some (.int l1), some (.int l2), some (.int l3)] [] h (e_is (e_rn c_I q)) := by
  intro n
  induction n with
  | zero => intro l0 l1 l2 l3 h q hf; simp [fX35_nameToken_b31] at hf
  | succ n ih =>
    intro l0 l1 l2 l3 h q hf
    rw [fX35_nameToken_b31] at hf
    refine w_iload_n dX35_nameToken_31 rfl rfl ?_
    refine w_aload_n dX35_nameToken_32 rfl rfl ?_
    obtain ⟨x1, b2, hf⟩ := Option.bind_eq_some_iff.mp hf
    refine GX35_413 b2 dX35_nameToken_33 rfl ?_
    refine w_icmp_ge 79 dX35_nameToken_36 (by decide) (fun c3 => ?_) (fun c3 => ?_)
    · replace hf := (if_pos (show x1 ≤ l3 from c3)).symm.trans hf
      exact (pX35_nameToken_b79 hd hk2 hf).to ⟨rfl, rfl, rfl, trivial⟩
    · replace hf := (if_neg (show ¬ (x1 ≤ l3) from c3)).symm.trans hf
      refine w_iload_n dX35_nameToken_39 rfl rfl ?_
      refine w_if_eq 79 dX35_nameToken_40 (by decide) (fun c4 => ?_) (fun c4 => ?_)
      · replace hf := (if_pos (show l2 = 0 from c4)).symm.trans hf
        exact (pX35_nameToken_b79 hd hk2 hf).to ⟨rfl, rfl, rfl, trivial⟩
      · replace hf := (if_neg (show ¬ (l2 = 0) from c4)).symm.trans hf
        refine w_aload_n dX35_nameToken_43 rfl rfl ?_
        obtain ⟨a5, b6, hf⟩ := Option.bind_eq_some_iff.mp hf
        refine GX35_52 b6 dX35_nameToken_44 rfl ?_
        refine w_bipush dX35_nameToken_47 (v := 40) (by decide) ?_
        refine w_iload_n dX35_nameToken_49 rfl rfl ?_
        refine w_imul dX35_nameToken_50 ?_
        refine w_iload_n dX35_nameToken_51 rfl rfl ?_
        refine w_iadd dX35_nameToken_52 ?_
        obtain ⟨x7, b8, hf⟩ := Option.bind_eq_some_iff.mp hf
        refine x_rB b8 dX35_nameToken_53 ?_
        refine w_sipush dX35_nameToken_54 (v := 255) (by decide) ?_
        refine w_iand dX35_nameToken_57 ?_
        refine w_aload_n dX35_nameToken_58 rfl rfl ?_
        obtain ⟨a9, b10, hf⟩ := Option.bind_eq_some_iff.mp hf
        refine GX35_58 b10 dX35_nameToken_59 rfl ?_
        refine w_iload_n dX35_nameToken_62 rfl rfl ?_
        obtain ⟨x11, b12, hf⟩ := Option.bind_eq_some_iff.mp hf
        refine x_rI b12 dX35_nameToken_63 ?_
        refine w_icmp_ne 71 dX35_nameToken_64 (by decide) (fun c13 => ?_) (fun c13 => ?_)
        · replace hf := (if_pos (show ¬ (x7 &&& (255 : Int32)) = x11 from c13)).symm.trans hf
          refine w_iconst dX35_nameToken_71 (v := 0) (by decide) ?_
          exact (pX35_nameToken_b72 hd ih hf).to ⟨rfl, rfl, rfl, trivial⟩
        · replace hf := (if_neg (show ¬ (¬ (x7 &&& (255 : Int32)) = x11) from (fun z => z c13))).symm.trans hf
          refine w_iconst dX35_nameToken_67 (v := 1) (by decide) ?_
          refine w_goto 72 dX35_nameToken_68 (by decide) ?_
          exact (pX35_nameToken_b72 hd ih hf).to ⟨rfl, rfl, rfl, trivial⟩
def fX35_nameToken_b28 (N : Nat) (k2 : Nat → Int32 → eH → Option (Int32 × eH)) (l0 : Nat) (l1 : Int32) (s0 : Int32) (h : eH) : Option (Int32 × eH) :=
  fX35_nameToken_b31 N k2 N l0 l1 s0 (0 : Int32) h
theorem pX35_nameToken_b28 {w : eW} {d : Nat} (hd : 1 ≤ d + 1) {N : Nat} {k2 : Nat → Int32 → eH → Option (Int32 × eH)} (hk2 : ∀ l0 l1 h q, k2 l0 l1 h = some q → wp w (d + 1) YX35_nameToken 2 [some (.ref l0), some (.int l1), none, none] [] h (e_is (e_rn c_I q))) {l0 : Nat} {l1 : Int32} {s0 : Int32} {h : eH} {q} (hf : fX35_nameToken_b28 N k2 l0 l1 s0 h = some q) : wp w (d + 1) YX35_nameToken 28 [some (.ref l0), some (.int l1), none, none] [.int s0] h (e_is (e_rn c_I q)) := by
  unfold fX35_nameToken_b28 at hf
  refine w_istore_n dX35_nameToken_28 rfl (by decide) (ls' := [some (.ref l0), some (.int l1), some (.int s0), none]) rfl ?_
  refine w_iconst dX35_nameToken_29 (v := 0) (by decide) ?_
  refine w_istore_n dX35_nameToken_30 rfl (by decide) (ls' := [some (.ref l0), some (.int l1), some (.int s0), some (.int (0 : Int32))]) rfl ?_
  exact (pX35_nameToken_b31 hd hk2 N _ _ _ _ _ _ hf).to ⟨rfl, rfl, rfl, rfl, trivial⟩
def fX35_nameToken_b121 (N : Nat) : Nat → Nat → Int32 → Int32 → eH → Option (Int32 × eH)
  | 0, _, _, _, _ => none
  | n + 1, l0, l1, l2, h =>
    (g_I 34 h l0 21).bind fun x1 =>
    if x1 < l2 then
      some (((65536 : Int32) + l1), h)
    else
      (g_A 34 h l0 22).bind fun a4 =>
      (q_V 100 h a4 (((3812 : Int32) * l2) + l1) (.int (0 : Int32))).bind fun h6 =>
      fX35_nameToken_b121 N n l0 l1 (l2 + (1 : Int32)) h6
theorem pX35_nameToken_b121 {w : eW} {d : Nat} (hd : 1 ≤ d + 1) {N : Nat} : ∀ (n : Nat) l0 l1 l2 h q, fX35_nameToken_b121 N n l0 l1 l2 h = some q → wp w (d + 1) YX35_nameToken 121 [some (.ref l0), some (.int l1), some (.int l2), none] [] h (e_is (e_rn c_I q)) := by
  intro n
  induction n with
  | zero => intro l0 l1 l2 h q hf; simp [fX35_nameToken_b121] at hf
  | succ n ih =>
    intro l0 l1 l2 h q hf
    rw [fX35_nameToken_b121] at hf
    refine w_iload_n dX35_nameToken_121 rfl rfl ?_
    refine w_aload_n dX35_nameToken_122 rfl rfl ?_
    obtain ⟨x1, b2, hf⟩ := Option.bind_eq_some_iff.mp hf
    refine GX35_323 b2 dX35_nameToken_123 rfl ?_
    refine w_icmp_gt 148 dX35_nameToken_126 (by decide) (fun c3 => ?_) (fun c3 => ?_)
    · replace hf := (if_pos (show x1 < l2 from c3)).symm.trans hf
      refine w_ldc dX35_nameToken_148 q4119 ?_
      refine w_iload_n dX35_nameToken_150 rfl rfl ?_
      refine w_iadd dX35_nameToken_151 ?_
      cases hf
      exact w_iret dX35_nameToken_152 rfl rfl rfl
    · replace hf := (if_neg (show ¬ (x1 < l2) from c3)).symm.trans hf
      refine w_aload_n dX35_nameToken_129 rfl rfl ?_
      obtain ⟨a4, b5, hf⟩ := Option.bind_eq_some_iff.mp hf
      refine GX35_65 b5 dX35_nameToken_130 rfl ?_
      refine w_sipush dX35_nameToken_133 (v := 3812) (by decide) ?_
      refine w_iload_n dX35_nameToken_136 rfl rfl ?_
      refine w_imul dX35_nameToken_137 ?_
      refine w_iload_n dX35_nameToken_138 rfl rfl ?_
      refine w_iadd dX35_nameToken_139 ?_
      refine w_iconst dX35_nameToken_140 (v := 0) (by decide) ?_
      obtain ⟨h6, b7, hf⟩ := Option.bind_eq_some_iff.mp hf
      refine x_qI b7 dX35_nameToken_141 ?_
      refine w_iinc dX35_nameToken_142 (v := (l2 + (1 : Int32))) rfl rfl (by decide) (ls' := [some (.ref l0), some (.int l1), some (.int (l2 + (1 : Int32))), none]) rfl ?_
      refine w_goto 121 dX35_nameToken_145 (by decide) ?_
      exact (ih _ _ _ _ _ hf).to ⟨rfl, rfl, rfl, trivial⟩
def fX35_nameToken_b2 (N : Nat) : Nat → Nat → Int32 → eH → Option (Int32 × eH)
  | 0, _, _, _ => none
  | n + 1, l0, l1, h =>
    (g_I 34 h l0 15).bind fun x1 =>
    if x1 ≤ l1 then
      (g_I 34 h l0 15).bind fun x4 =>
      if ¬ (x4 - (96 : Int32)) = (1000 : Int32) then
        (k_ok 34 h l0).bind fun _ =>
        (fX35_addName N l0 h).bind fun q8 =>
        fX35_nameToken_b121 N N l0 q8.1 (0 : Int32) q8.2
      else
        (k_ok 34 h l0).bind fun _ =>
        (fX35_fail l0 (2 : Int32) h).bind fun q10 =>
        some ((-1 : Int32), q10.2)
    else
      (g_A 34 h l0 17).bind fun a11 =>
      (r_I 100 h a11 l1).bind fun x13 =>
      (g_I 34 h l0 19).bind fun x15 =>
      if ¬ x13 = x15 then
        fX35_nameToken_b28 N (fX35_nameToken_b2 N n) l0 l1 (0 : Int32) h
      else
        fX35_nameToken_b28 N (fX35_nameToken_b2 N n) l0 l1 (1 : Int32) h
theorem pX35_nameToken_b2 {w : eW} {d : Nat} (hd : 1 ≤ d + 1) {N : Nat} : ∀ (n : Nat) l0 l1 h q, fX35_nameToken_b2 N n l0 l1 h = some q → wp w (d + 1) YX35_nameToken 2 [some (.ref l0), some (.int l1), none, none] [] h (e_is (e_rn c_I q)) := by
  intro n
  induction n with
  | zero => intro l0 l1 h q hf; simp [fX35_nameToken_b2] at hf
  | succ n ih =>
    intro l0 l1 h q hf
    rw [fX35_nameToken_b2] at hf
    refine w_iload_n dX35_nameToken_2 rfl rfl ?_
    refine w_aload_n dX35_nameToken_3 rfl rfl ?_
    obtain ⟨x1, b2, hf⟩ := Option.bind_eq_some_iff.mp hf
    refine GX35_360 b2 dX35_nameToken_4 rfl ?_
    refine w_icmp_ge 94 dX35_nameToken_7 (by decide) (fun c3 => ?_) (fun c3 => ?_)
    · replace hf := (if_pos (show x1 ≤ l1 from c3)).symm.trans hf
      refine w_aload_n dX35_nameToken_94 rfl rfl ?_
      obtain ⟨x4, b5, hf⟩ := Option.bind_eq_some_iff.mp hf
      refine GX35_360 b5 dX35_nameToken_95 rfl ?_
      refine w_bipush dX35_nameToken_98 (v := 96) (by decide) ?_
      refine w_isub dX35_nameToken_100 ?_
      refine w_sipush dX35_nameToken_101 (v := 1000) (by decide) ?_
      refine w_icmp_ne 114 dX35_nameToken_104 (by decide) (fun c6 => ?_) (fun c6 => ?_)
      · replace hf := (if_pos (show ¬ (x4 - (96 : Int32)) = (1000 : Int32) from c6)).symm.trans hf
        refine w_aload_n dX35_nameToken_114 rfl rfl ?_
        obtain ⟨_, b7, hf⟩ := Option.bind_eq_some_iff.mp hf
        refine x_cnI hf (e_stV (Yc := YX35_addName) (ci := 34) (av := []) (st := []) dX35_nameToken_115 q4497 mX35_addName rfl (k_ok_some b7).1 (k_ok_some b7).2) mX35_addName.2.2.1 mX35_addName.2.2.2.2.1 (Nat.le_of_ble_eq_true rfl) (Nat.le_of_ble_eq_true rfl) (fun q hq => pX35_addName (by omega) hq) (fun q8 hf => ?_)
        refine w_istore_n dX35_nameToken_118 rfl (by decide) (ls' := [some (.ref l0), some (.int q8.1), none, none]) rfl ?_
        refine w_iconst dX35_nameToken_119 (v := 0) (by decide) ?_
        refine w_istore_n dX35_nameToken_120 rfl (by decide) (ls' := [some (.ref l0), some (.int q8.1), some (.int (0 : Int32)), none]) rfl ?_
        exact (pX35_nameToken_b121 hd N _ _ _ _ _ hf).to ⟨rfl, rfl, rfl, trivial⟩
      · replace hf := (if_neg (show ¬ (¬ (x4 - (96 : Int32)) = (1000 : Int32)) from (fun z => z c6))).symm.trans hf
        refine w_aload_n dX35_nameToken_107 rfl rfl ?_
        refine w_iconst dX35_nameToken_108 (v := 2) (by decide) ?_
        obtain ⟨_, b9, hf⟩ := Option.bind_eq_some_iff.mp hf
        refine x_cnV hf (e_stV (Yc := YX35_fail) (ci := 34) (av := [.int (2 : Int32)]) (st := []) dX35_nameToken_109 q5109 mX35_fail rfl (k_ok_some b9).1 (k_ok_some b9).2) mX35_fail.2.2.1 mX35_fail.2.2.2.2.1 (Nat.le_of_ble_eq_true rfl) (Nat.le_of_ble_eq_true rfl) (fun q hq => pX35_fail (by omega) hq) (fun q10 hf => ?_)
        refine w_iconst dX35_nameToken_112 (v := -1) (by decide) ?_
        cases hf
        exact w_iret dX35_nameToken_113 rfl rfl rfl
    · replace hf := (if_neg (show ¬ (x1 ≤ l1) from c3)).symm.trans hf
      refine w_aload_n dX35_nameToken_10 rfl rfl ?_
      obtain ⟨a11, b12, hf⟩ := Option.bind_eq_some_iff.mp hf
      refine GX35_55 b12 dX35_nameToken_11 rfl ?_
      refine w_iload_n dX35_nameToken_14 rfl rfl ?_
      obtain ⟨x13, b14, hf⟩ := Option.bind_eq_some_iff.mp hf
      refine x_rI b14 dX35_nameToken_15 ?_
      refine w_aload_n dX35_nameToken_16 rfl rfl ?_
      obtain ⟨x15, b16, hf⟩ := Option.bind_eq_some_iff.mp hf
      refine GX35_413 b16 dX35_nameToken_17 rfl ?_
      refine w_icmp_ne 27 dX35_nameToken_20 (by decide) (fun c17 => ?_) (fun c17 => ?_)
      · replace hf := (if_pos (show ¬ x13 = x15 from c17)).symm.trans hf
        refine w_iconst dX35_nameToken_27 (v := 0) (by decide) ?_
        exact (pX35_nameToken_b28 hd ih hf).to ⟨rfl, rfl, trivial⟩
      · replace hf := (if_neg (show ¬ (¬ x13 = x15) from (fun z => z c17))).symm.trans hf
        refine w_iconst dX35_nameToken_23 (v := 1) (by decide) ?_
        refine w_goto 28 dX35_nameToken_24 (by decide) ?_
        exact (pX35_nameToken_b28 hd ih hf).to ⟨rfl, rfl, trivial⟩
def fX35_nameToken (N : Nat) (this : Nat) (h : eH) : Option (Int32 × eH) :=
  fX35_nameToken_b2 N N this (0 : Int32) h
theorem pX35_nameToken {w : eW} {d : Nat} (hd : 1 ≤ d) {N : Nat} {this : Nat} {h : eH} {q} (hf : fX35_nameToken N this h = some q) : wm w d YX35_nameToken [.ref this] h (e_is (e_rn c_I q)) := by
  obtain ⟨d, rfl⟩ : ∃ e, d = e + 1 := ⟨d - 1, by omega⟩
  show wp w (d + 1) YX35_nameToken 0 [some (.ref this), none, none, none] [] h _
  unfold fX35_nameToken at hf
  refine w_iconst dX35_nameToken_0 (v := 0) (by decide) ?_
  refine w_istore_n dX35_nameToken_1 rfl (by decide) (ls' := [some (.ref this), some (.int (0 : Int32)), none, none]) rfl ?_
  exact (pX35_nameToken_b2 hd N _ _ _ _ hf).to ⟨rfl, rfl, trivial⟩
abbrev cX35_readName : ByteArray := prog_37_method_23_code
def yX35_readName : MethodName := ⟨RX35, "readName", "()I"⟩
def YX35_readName : eY := (yX35_readName, cX35_readName, 1, (Option.some FieldType.int), [])
theorem mX35_readName : e_mv YX35_readName RX35 0 := ⟨q5103, qs242, q5104, by decide, by decide +kernel, (e_sig (by decide +kernel))⟩
theorem dX35_readName_0 : decode cX35_readName 0 = .ok (.aload_n 0, 1) := dc_42 (by decide +kernel)
theorem dX35_readName_1 : decode cX35_readName 1 = .ok (.iconst 0, 1) := dc_3 (by decide +kernel)
theorem dX35_readName_2 : decode cX35_readName 2 = .ok (.putfield 413, 3) := dc_181 (a := 1) (b := 157) (n := 413) (by decide +kernel)
theorem dX35_readName_5 : decode cX35_readName 5 = .ok (.aload_n 0, 1) := dc_42 (by decide +kernel)
theorem dX35_readName_6 : decode cX35_readName 6 = .ok (.iconst 1, 1) := dc_4 (by decide +kernel)
theorem dX35_readName_7 : decode cX35_readName 7 = .ok (.putfield 338, 3) := dc_181 (a := 1) (b := 82) (n := 338) (by decide +kernel)
theorem dX35_readName_10 : decode cX35_readName 10 = .ok (.aload_n 0, 1) := dc_42 (by decide +kernel)
theorem dX35_readName_11 : decode cX35_readName 11 = .ok (.getfield 335, 3) := dc_180 (a := 1) (b := 79) (n := 335) (by decide +kernel)
theorem dX35_readName_14 : decode cX35_readName 14 = .ok (.aload_n 0, 1) := dc_42 (by decide +kernel)
theorem dX35_readName_15 : decode cX35_readName 15 = .ok (.getfield 332, 3) := dc_180 (a := 1) (b := 76) (n := 332) (by decide +kernel)
theorem dX35_readName_18 : decode cX35_readName 18 = .ok (.if_icmp .ge 88, 3) := dc_162 (a := 0) (b := 88) (v := 88) (by decide +kernel)
theorem dX35_readName_21 : decode cX35_readName 21 = .ok (.aload_n 0, 1) := dc_42 (by decide +kernel)
theorem dX35_readName_22 : decode cX35_readName 22 = .ok (.aload_n 0, 1) := dc_42 (by decide +kernel)
theorem dX35_readName_23 : decode cX35_readName 23 = .ok (.getfield 47, 3) := dc_180 (a := 0) (b := 47) (n := 47) (by decide +kernel)
theorem dX35_readName_26 : decode cX35_readName 26 = .ok (.aload_n 0, 1) := dc_42 (by decide +kernel)
theorem dX35_readName_27 : decode cX35_readName 27 = .ok (.getfield 335, 3) := dc_180 (a := 1) (b := 79) (n := 335) (by decide +kernel)
theorem dX35_readName_30 : decode cX35_readName 30 = .ok (.iaload, 1) := dc_46 (by decide +kernel)
theorem dX35_readName_31 : decode cX35_readName 31 = .ok (.invokevirtual 435, 3) := dc_182 (a := 1) (b := 179) (n := 435) (by decide +kernel)
theorem dX35_readName_34 : decode cX35_readName 34 = .ok (.bipush 11, 2) := dc_16 (a := 11) (v := 11) (by decide +kernel)
theorem dX35_readName_36 : decode cX35_readName 36 = .ok (.if_icmp .ne 70, 3) := dc_160 (a := 0) (b := 70) (v := 70) (by decide +kernel)
theorem dX35_readName_39 : decode cX35_readName 39 = .ok (.aload_n 0, 1) := dc_42 (by decide +kernel)
theorem dX35_readName_40 : decode cX35_readName 40 = .ok (.iconst 2, 1) := dc_5 (by decide +kernel)
theorem dX35_readName_41 : decode cX35_readName 41 = .ok (.putfield 338, 3) := dc_181 (a := 1) (b := 82) (n := 338) (by decide +kernel)
theorem dX35_readName_44 : decode cX35_readName 44 = .ok (.aload_n 0, 1) := dc_42 (by decide +kernel)
theorem dX35_readName_45 : decode cX35_readName 45 = .ok (.getfield 321, 3) := dc_180 (a := 1) (b := 65) (n := 321) (by decide +kernel)
theorem dX35_readName_48 : decode cX35_readName 48 = .ok (.ifCond .ne 119, 3) := dc_154 (a := 0) (b := 119) (v := 119) (by decide +kernel)
theorem dX35_readName_51 : decode cX35_readName 51 = .ok (.aload_n 0, 1) := dc_42 (by decide +kernel)
theorem dX35_readName_52 : decode cX35_readName 52 = .ok (.getfield 335, 3) := dc_180 (a := 1) (b := 79) (n := 335) (by decide +kernel)
theorem dX35_readName_55 : decode cX35_readName 55 = .ok (.aload_n 0, 1) := dc_42 (by decide +kernel)
theorem dX35_readName_56 : decode cX35_readName 56 = .ok (.getfield 332, 3) := dc_180 (a := 1) (b := 76) (n := 332) (by decide +kernel)
theorem dX35_readName_59 : decode cX35_readName 59 = .ok (.if_icmp .ge 108, 3) := dc_162 (a := 0) (b := 108) (v := 108) (by decide +kernel)
theorem dX35_readName_62 : decode cX35_readName 62 = .ok (.aload_n 0, 1) := dc_42 (by decide +kernel)
theorem dX35_readName_63 : decode cX35_readName 63 = .ok (.aload_n 0, 1) := dc_42 (by decide +kernel)
theorem dX35_readName_64 : decode cX35_readName 64 = .ok (.getfield 47, 3) := dc_180 (a := 0) (b := 47) (n := 47) (by decide +kernel)
theorem dX35_readName_67 : decode cX35_readName 67 = .ok (.aload_n 0, 1) := dc_42 (by decide +kernel)
theorem dX35_readName_68 : decode cX35_readName 68 = .ok (.getfield 335, 3) := dc_180 (a := 1) (b := 79) (n := 335) (by decide +kernel)
theorem dX35_readName_71 : decode cX35_readName 71 = .ok (.iaload, 1) := dc_46 (by decide +kernel)
theorem dX35_readName_72 : decode cX35_readName 72 = .ok (.invokevirtual 435, 3) := dc_182 (a := 1) (b := 179) (n := 435) (by decide +kernel)
theorem dX35_readName_75 : decode cX35_readName 75 = .ok (.bipush 11, 2) := dc_16 (a := 11) (v := 11) (by decide +kernel)
theorem dX35_readName_77 : decode cX35_readName 77 = .ok (.if_icmp .ne 90, 3) := dc_160 (a := 0) (b := 90) (v := 90) (by decide +kernel)
theorem dX35_readName_80 : decode cX35_readName 80 = .ok (.aload_n 0, 1) := dc_42 (by decide +kernel)
theorem dX35_readName_81 : decode cX35_readName 81 = .ok (.aload_n 0, 1) := dc_42 (by decide +kernel)
theorem dX35_readName_82 : decode cX35_readName 82 = .ok (.getfield 47, 3) := dc_180 (a := 0) (b := 47) (n := 47) (by decide +kernel)
theorem dX35_readName_85 : decode cX35_readName 85 = .ok (.aload_n 0, 1) := dc_42 (by decide +kernel)
theorem dX35_readName_86 : decode cX35_readName 86 = .ok (.getfield 335, 3) := dc_180 (a := 1) (b := 79) (n := 335) (by decide +kernel)
theorem dX35_readName_89 : decode cX35_readName 89 = .ok (.iaload, 1) := dc_46 (by decide +kernel)
theorem dX35_readName_90 : decode cX35_readName 90 = .ok (.invokevirtual 438, 3) := dc_182 (a := 1) (b := 182) (n := 438) (by decide +kernel)
theorem dX35_readName_93 : decode cX35_readName 93 = .ok (.aload_n 0, 1) := dc_42 (by decide +kernel)
theorem dX35_readName_94 : decode cX35_readName 94 = .ok (.dup, 1) := dc_89 (by decide +kernel)
theorem dX35_readName_95 : decode cX35_readName 95 = .ok (.getfield 335, 3) := dc_180 (a := 1) (b := 79) (n := 335) (by decide +kernel)
theorem dX35_readName_98 : decode cX35_readName 98 = .ok (.iconst 1, 1) := dc_4 (by decide +kernel)
theorem dX35_readName_99 : decode cX35_readName 99 = .ok (.iadd, 1) := dc_96 (by decide +kernel)
theorem dX35_readName_100 : decode cX35_readName 100 = .ok (.putfield 335, 3) := dc_181 (a := 1) (b := 79) (n := 335) (by decide +kernel)
theorem dX35_readName_103 : decode cX35_readName 103 = .ok (.goto (-59), 3) := dc_167 (a := 255) (b := 197) (v := -59) (by decide +kernel)
theorem dX35_readName_106 : decode cX35_readName 106 = .ok (.aload_n 0, 1) := dc_42 (by decide +kernel)
theorem dX35_readName_107 : decode cX35_readName 107 = .ok (.getfield 335, 3) := dc_180 (a := 1) (b := 79) (n := 335) (by decide +kernel)
theorem dX35_readName_110 : decode cX35_readName 110 = .ok (.aload_n 0, 1) := dc_42 (by decide +kernel)
theorem dX35_readName_111 : decode cX35_readName 111 = .ok (.getfield 332, 3) := dc_180 (a := 1) (b := 76) (n := 332) (by decide +kernel)
theorem dX35_readName_114 : decode cX35_readName 114 = .ok (.if_icmp .ge 53, 3) := dc_162 (a := 0) (b := 53) (v := 53) (by decide +kernel)
theorem dX35_readName_117 : decode cX35_readName 117 = .ok (.aload_n 0, 1) := dc_42 (by decide +kernel)
theorem dX35_readName_118 : decode cX35_readName 118 = .ok (.aload_n 0, 1) := dc_42 (by decide +kernel)
theorem dX35_readName_119 : decode cX35_readName 119 = .ok (.aload_n 0, 1) := dc_42 (by decide +kernel)
theorem dX35_readName_120 : decode cX35_readName 120 = .ok (.getfield 47, 3) := dc_180 (a := 0) (b := 47) (n := 47) (by decide +kernel)
theorem dX35_readName_123 : decode cX35_readName 123 = .ok (.aload_n 0, 1) := dc_42 (by decide +kernel)
theorem dX35_readName_124 : decode cX35_readName 124 = .ok (.getfield 335, 3) := dc_180 (a := 1) (b := 79) (n := 335) (by decide +kernel)
theorem dX35_readName_127 : decode cX35_readName 127 = .ok (.iaload, 1) := dc_46 (by decide +kernel)
theorem dX35_readName_128 : decode cX35_readName 128 = .ok (.invokevirtual 435, 3) := dc_182 (a := 1) (b := 179) (n := 435) (by decide +kernel)
theorem dX35_readName_131 : decode cX35_readName 131 = .ok (.bipush 10, 2) := dc_16 (a := 10) (v := 10) (by decide +kernel)
theorem dX35_readName_133 : decode cX35_readName 133 = .ok (.if_icmp .ne 7, 3) := dc_160 (a := 0) (b := 7) (v := 7) (by decide +kernel)
theorem dX35_readName_136 : decode cX35_readName 136 = .ok (.iconst 2, 1) := dc_5 (by decide +kernel)
theorem dX35_readName_137 : decode cX35_readName 137 = .ok (.goto 4, 3) := dc_167 (a := 0) (b := 4) (v := 4) (by decide +kernel)
theorem dX35_readName_140 : decode cX35_readName 140 = .ok (.iconst 1, 1) := dc_4 (by decide +kernel)
theorem dX35_readName_141 : decode cX35_readName 141 = .ok (.putfield 338, 3) := dc_181 (a := 1) (b := 82) (n := 338) (by decide +kernel)
theorem dX35_readName_144 : decode cX35_readName 144 = .ok (.aload_n 0, 1) := dc_42 (by decide +kernel)
theorem dX35_readName_145 : decode cX35_readName 145 = .ok (.aload_n 0, 1) := dc_42 (by decide +kernel)
theorem dX35_readName_146 : decode cX35_readName 146 = .ok (.getfield 47, 3) := dc_180 (a := 0) (b := 47) (n := 47) (by decide +kernel)
theorem dX35_readName_149 : decode cX35_readName 149 = .ok (.aload_n 0, 1) := dc_42 (by decide +kernel)
theorem dX35_readName_150 : decode cX35_readName 150 = .ok (.getfield 335, 3) := dc_180 (a := 1) (b := 79) (n := 335) (by decide +kernel)
theorem dX35_readName_153 : decode cX35_readName 153 = .ok (.iaload, 1) := dc_46 (by decide +kernel)
theorem dX35_readName_154 : decode cX35_readName 154 = .ok (.invokevirtual 438, 3) := dc_182 (a := 1) (b := 182) (n := 438) (by decide +kernel)
theorem dX35_readName_157 : decode cX35_readName 157 = .ok (.aload_n 0, 1) := dc_42 (by decide +kernel)
theorem dX35_readName_158 : decode cX35_readName 158 = .ok (.dup, 1) := dc_89 (by decide +kernel)
theorem dX35_readName_159 : decode cX35_readName 159 = .ok (.getfield 335, 3) := dc_180 (a := 1) (b := 79) (n := 335) (by decide +kernel)
theorem dX35_readName_162 : decode cX35_readName 162 = .ok (.iconst 1, 1) := dc_4 (by decide +kernel)
theorem dX35_readName_163 : decode cX35_readName 163 = .ok (.iadd, 1) := dc_96 (by decide +kernel)
theorem dX35_readName_164 : decode cX35_readName 164 = .ok (.putfield 335, 3) := dc_181 (a := 1) (b := 79) (n := 335) (by decide +kernel)
theorem dX35_readName_167 : decode cX35_readName 167 = .ok (.aload_n 0, 1) := dc_42 (by decide +kernel)
theorem dX35_readName_168 : decode cX35_readName 168 = .ok (.getfield 321, 3) := dc_180 (a := 1) (b := 65) (n := 321) (by decide +kernel)
theorem dX35_readName_171 : decode cX35_readName 171 = .ok (.ifCond .le 7, 3) := dc_158 (a := 0) (b := 7) (v := 7) (by decide +kernel)
theorem dX35_readName_174 : decode cX35_readName 174 = .ok (.iconst (-1), 1) := dc_2 (by decide +kernel)
theorem dX35_readName_175 : decode cX35_readName 175 = .ok (.goto 7, 3) := dc_167 (a := 0) (b := 7) (v := 7) (by decide +kernel)
theorem dX35_readName_178 : decode cX35_readName 178 = .ok (.aload_n 0, 1) := dc_42 (by decide +kernel)
theorem dX35_readName_179 : decode cX35_readName 179 = .ok (.invokevirtual 441, 3) := dc_182 (a := 1) (b := 185) (n := 441) (by decide +kernel)
theorem dX35_readName_182 : decode cX35_readName 182 = .ok (.ireturn, 1) := dc_172 (by decide +kernel)
theorem GX35_335 {w : eW} {d : Nat} {Y : eY} {pc : Nat} {ls : eL} {st : List Value} {h : eH} {Q : eO → eH → Prop} {a : Nat} {x : Int32} (hf : g_I 34 h a 13 = some x) (hd : decode Y.2.1 pc = .ok (.getfield 335, 3)) (hY : Y.1.cls = RX35) (kk : wp w d Y (pc + 3) ls (.int x :: st) h Q) : wp w d Y pc ls (.ref a :: st) h Q := x_gI (ci := 34) (k := 13) hf hd rfl (by decide) (by rw [hY]; exact q4515) kk
def fX35_readName_b182 (N : Nat) (s0 : Int32) (h : eH) : Option (Int32 × eH) :=
  some (s0, h)
theorem pX35_readName_b182 {w : eW} {d : Nat} (hd : 2 ≤ d + 1) {N : Nat} {s0 : Int32} {h : eH} {q} (hf : fX35_readName_b182 N s0 h = some q) : wp w (d + 1) YX35_readName 182 [none] [.int s0] h (e_is (e_rn c_I q)) := by
  unfold fX35_readName_b182 at hf
  cases hf
  exact w_iret dX35_readName_182 rfl rfl rfl
def fX35_readName_b167 (N : Nat) (l0 : Nat) (h : eH) : Option (Int32 × eH) :=
  (g_I 34 h l0 46).bind fun x1 =>
  if x1 ≤ 0 then
    (k_ok 34 h l0).bind fun _ =>
    (fX35_nameToken N l0 h).bind fun q5 =>
    fX35_readName_b182 N q5.1 q5.2
  else
    fX35_readName_b182 N (-1 : Int32) h
theorem pX35_readName_b167 {w : eW} {d : Nat} (hd : 2 ≤ d + 1) {N : Nat} {l0 : Nat} {h : eH} {q} (hf : fX35_readName_b167 N l0 h = some q) : wp w (d + 1) YX35_readName 167 [some (.ref l0)] [] h (e_is (e_rn c_I q)) := by
  unfold fX35_readName_b167 at hf
  refine w_aload_n dX35_readName_167 rfl rfl ?_
  obtain ⟨x1, b2, hf⟩ := Option.bind_eq_some_iff.mp hf
  refine GX35_321 b2 dX35_readName_168 rfl ?_
  refine w_if_le 178 dX35_readName_171 (by decide) (fun c3 => ?_) (fun c3 => ?_)
  · replace hf := (if_pos (show x1 ≤ 0 from c3)).symm.trans hf
    refine w_aload_n dX35_readName_178 rfl rfl ?_
    obtain ⟨_, b4, hf⟩ := Option.bind_eq_some_iff.mp hf
    refine x_cnI hf (e_stV (Yc := YX35_nameToken) (ci := 34) (av := []) (st := []) dX35_readName_179 q5113 mX35_nameToken rfl (k_ok_some b4).1 (k_ok_some b4).2) mX35_nameToken.2.2.1 mX35_nameToken.2.2.2.2.1 (Nat.le_of_ble_eq_true rfl) (Nat.le_of_ble_eq_true rfl) (fun q hq => pX35_nameToken (by omega) hq) (fun q5 hf => ?_)
    exact (pX35_readName_b182 hd hf).to trivial
  · replace hf := (if_neg (show ¬ (x1 ≤ 0) from c3)).symm.trans hf
    refine w_iconst dX35_readName_174 (v := -1) (by decide) ?_
    refine w_goto 182 dX35_readName_175 (by decide) ?_
    exact (pX35_readName_b182 hd hf).to trivial
def fX35_readName_b44 (N : Nat) : Nat → Nat → eH → Option (Int32 × eH)
  | 0, _, _ => none
  | n + 1, l0, h =>
    (g_I 34 h l0 46).bind fun x1 =>
    if ¬ x1 = 0 then
      fX35_readName_b167 N l0 h
    else
      (g_I 34 h l0 13).bind fun x4 =>
      (g_I 34 h l0 12).bind fun x6 =>
      if x6 ≤ x4 then
        fX35_readName_b167 N l0 h
      else
        (g_A 34 h l0 11).bind fun a9 =>
        (g_I 34 h l0 13).bind fun x11 =>
        (r_I 100 h a9 x11).bind fun x13 =>
        (k_ok 34 h l0).bind fun _ =>
        (fX35_category l0 x13 h).bind fun q16 =>
        if ¬ q16.1 = (11 : Int32) then
          fX35_readName_b167 N l0 q16.2
        else
          (g_A 34 q16.2 l0 11).bind fun a18 =>
          (g_I 34 q16.2 l0 13).bind fun x20 =>
          (r_I 100 q16.2 a18 x20).bind fun x22 =>
          (k_ok 34 q16.2 l0).bind fun _ =>
          (fX35_spell l0 x22 q16.2).bind fun q25 =>
          (g_I 34 q25.2 l0 13).bind fun x26 =>
          (p_V 34 q25.2 l0 13 (.int (x26 + (1 : Int32)))).bind fun h28 =>
          fX35_readName_b44 N n l0 h28
theorem pX35_readName_b44 {w : eW} {d : Nat} (hd : 2 ≤ d + 1) {N : Nat} : ∀ (n : Nat) l0 h q, fX35_readName_b44 N n l0 h = some q → wp w (d + 1) YX35_readName 44 [some (.ref l0)] [] h (e_is (e_rn c_I q)) := by
  intro n
  induction n with
  | zero => intro l0 h q hf; simp [fX35_readName_b44] at hf
  | succ n ih =>
    intro l0 h q hf
    rw [fX35_readName_b44] at hf
    refine w_aload_n dX35_readName_44 rfl rfl ?_
    obtain ⟨x1, b2, hf⟩ := Option.bind_eq_some_iff.mp hf
    refine GX35_321 b2 dX35_readName_45 rfl ?_
    refine w_if_ne 167 dX35_readName_48 (by decide) (fun c3 => ?_) (fun c3 => ?_)
    · replace hf := (if_pos (show ¬ x1 = 0 from c3)).symm.trans hf
      exact (pX35_readName_b167 hd hf).to ⟨rfl, trivial⟩
    · replace hf := (if_neg (show ¬ (¬ x1 = 0) from (fun z => z c3))).symm.trans hf
      refine w_aload_n dX35_readName_51 rfl rfl ?_
      obtain ⟨x4, b5, hf⟩ := Option.bind_eq_some_iff.mp hf
      refine GX35_335 b5 dX35_readName_52 rfl ?_
      refine w_aload_n dX35_readName_55 rfl rfl ?_
      obtain ⟨x6, b7, hf⟩ := Option.bind_eq_some_iff.mp hf
      refine GX35_332 b7 dX35_readName_56 rfl ?_
      refine w_icmp_ge 167 dX35_readName_59 (by decide) (fun c8 => ?_) (fun c8 => ?_)
      · replace hf := (if_pos (show x6 ≤ x4 from c8)).symm.trans hf
        exact (pX35_readName_b167 hd hf).to ⟨rfl, trivial⟩
      · replace hf := (if_neg (show ¬ (x6 ≤ x4) from c8)).symm.trans hf
        refine w_aload_n dX35_readName_62 rfl rfl ?_
        refine w_aload_n dX35_readName_63 rfl rfl ?_
        obtain ⟨a9, b10, hf⟩ := Option.bind_eq_some_iff.mp hf
        refine GX35_47 b10 dX35_readName_64 rfl ?_
        refine w_aload_n dX35_readName_67 rfl rfl ?_
        obtain ⟨x11, b12, hf⟩ := Option.bind_eq_some_iff.mp hf
        refine GX35_335 b12 dX35_readName_68 rfl ?_
        obtain ⟨x13, b14, hf⟩ := Option.bind_eq_some_iff.mp hf
        refine x_rI b14 dX35_readName_71 ?_
        obtain ⟨_, b15, hf⟩ := Option.bind_eq_some_iff.mp hf
        refine x_cnI hf (e_stV (Yc := YX35_category) (ci := 34) (av := [.int x13]) (st := []) dX35_readName_72 q5093 mX35_category rfl (k_ok_some b15).1 (k_ok_some b15).2) mX35_category.2.2.1 mX35_category.2.2.2.2.1 (Nat.le_of_ble_eq_true rfl) (Nat.le_of_ble_eq_true rfl) (fun q hq => pX35_category (by omega) hq) (fun q16 hf => ?_)
        refine w_bipush dX35_readName_75 (v := 11) (by decide) ?_
        refine w_icmp_ne 167 dX35_readName_77 (by decide) (fun c17 => ?_) (fun c17 => ?_)
        · replace hf := (if_pos (show ¬ q16.1 = (11 : Int32) from c17)).symm.trans hf
          exact (pX35_readName_b167 hd hf).to ⟨rfl, trivial⟩
        · replace hf := (if_neg (show ¬ (¬ q16.1 = (11 : Int32)) from (fun z => z c17))).symm.trans hf
          refine w_aload_n dX35_readName_80 rfl rfl ?_
          refine w_aload_n dX35_readName_81 rfl rfl ?_
          obtain ⟨a18, b19, hf⟩ := Option.bind_eq_some_iff.mp hf
          refine GX35_47 b19 dX35_readName_82 rfl ?_
          refine w_aload_n dX35_readName_85 rfl rfl ?_
          obtain ⟨x20, b21, hf⟩ := Option.bind_eq_some_iff.mp hf
          refine GX35_335 b21 dX35_readName_86 rfl ?_
          obtain ⟨x22, b23, hf⟩ := Option.bind_eq_some_iff.mp hf
          refine x_rI b23 dX35_readName_89 ?_
          obtain ⟨_, b24, hf⟩ := Option.bind_eq_some_iff.mp hf
          refine x_cnV hf (e_stV (Yc := YX35_spell) (ci := 34) (av := [.int x22]) (st := []) dX35_readName_90 q5105 mX35_spell rfl (k_ok_some b24).1 (k_ok_some b24).2) mX35_spell.2.2.1 mX35_spell.2.2.2.2.1 (Nat.le_of_ble_eq_true rfl) (Nat.le_of_ble_eq_true rfl) (fun q hq => pX35_spell (by omega) hq) (fun q25 hf => ?_)
          refine w_aload_n dX35_readName_93 rfl rfl ?_
          refine w_dup dX35_readName_94 rfl ?_
          obtain ⟨x26, b27, hf⟩ := Option.bind_eq_some_iff.mp hf
          refine GX35_335 b27 dX35_readName_95 rfl ?_
          refine w_iconst dX35_readName_98 (v := 1) (by decide) ?_
          refine w_iadd dX35_readName_99 ?_
          obtain ⟨h28, b29, hf⟩ := Option.bind_eq_some_iff.mp hf
          refine SX35_335 b29 dX35_readName_100 rfl ?_
          refine w_goto 44 dX35_readName_103 (by decide) ?_
          exact (ih _ _ _ hf).to ⟨rfl, trivial⟩
def fX35_readName_b141 (N : Nat) (l0 : Nat) (s0 : Nat) (s1 : Int32) (h : eH) : Option (Int32 × eH) :=
  (p_V 34 h s0 14 (.int s1)).bind fun h1 =>
  (g_A 34 h1 l0 11).bind fun a3 =>
  (g_I 34 h1 l0 13).bind fun x5 =>
  (r_I 100 h1 a3 x5).bind fun x7 =>
  (k_ok 34 h1 l0).bind fun _ =>
  (fX35_spell l0 x7 h1).bind fun q10 =>
  (g_I 34 q10.2 l0 13).bind fun x11 =>
  (p_V 34 q10.2 l0 13 (.int (x11 + (1 : Int32)))).bind fun h13 =>
  fX35_readName_b167 N l0 h13
theorem pX35_readName_b141 {w : eW} {d : Nat} (hd : 2 ≤ d + 1) {N : Nat} {l0 : Nat} {s0 : Nat} {s1 : Int32} {h : eH} {q} (hf : fX35_readName_b141 N l0 s0 s1 h = some q) : wp w (d + 1) YX35_readName 141 [some (.ref l0)] [.int s1, .ref s0] h (e_is (e_rn c_I q)) := by
  unfold fX35_readName_b141 at hf
  obtain ⟨h1, b2, hf⟩ := Option.bind_eq_some_iff.mp hf
  refine SX35_338 b2 dX35_readName_141 rfl ?_
  refine w_aload_n dX35_readName_144 rfl rfl ?_
  refine w_aload_n dX35_readName_145 rfl rfl ?_
  obtain ⟨a3, b4, hf⟩ := Option.bind_eq_some_iff.mp hf
  refine GX35_47 b4 dX35_readName_146 rfl ?_
  refine w_aload_n dX35_readName_149 rfl rfl ?_
  obtain ⟨x5, b6, hf⟩ := Option.bind_eq_some_iff.mp hf
  refine GX35_335 b6 dX35_readName_150 rfl ?_
  obtain ⟨x7, b8, hf⟩ := Option.bind_eq_some_iff.mp hf
  refine x_rI b8 dX35_readName_153 ?_
  obtain ⟨_, b9, hf⟩ := Option.bind_eq_some_iff.mp hf
  refine x_cnV hf (e_stV (Yc := YX35_spell) (ci := 34) (av := [.int x7]) (st := []) dX35_readName_154 q5105 mX35_spell rfl (k_ok_some b9).1 (k_ok_some b9).2) mX35_spell.2.2.1 mX35_spell.2.2.2.2.1 (Nat.le_of_ble_eq_true rfl) (Nat.le_of_ble_eq_true rfl) (fun q hq => pX35_spell (by omega) hq) (fun q10 hf => ?_)
  refine w_aload_n dX35_readName_157 rfl rfl ?_
  refine w_dup dX35_readName_158 rfl ?_
  obtain ⟨x11, b12, hf⟩ := Option.bind_eq_some_iff.mp hf
  refine GX35_335 b12 dX35_readName_159 rfl ?_
  refine w_iconst dX35_readName_162 (v := 1) (by decide) ?_
  refine w_iadd dX35_readName_163 ?_
  obtain ⟨h13, b14, hf⟩ := Option.bind_eq_some_iff.mp hf
  refine SX35_335 b14 dX35_readName_164 rfl ?_
  exact (pX35_readName_b167 hd hf).to ⟨rfl, trivial⟩
def fX35_readName_b106 (N : Nat) (l0 : Nat) (h : eH) : Option (Int32 × eH) :=
  (g_I 34 h l0 13).bind fun x1 =>
  (g_I 34 h l0 12).bind fun x3 =>
  if x3 ≤ x1 then
    fX35_readName_b167 N l0 h
  else
    (g_A 34 h l0 11).bind fun a6 =>
    (g_I 34 h l0 13).bind fun x8 =>
    (r_I 100 h a6 x8).bind fun x10 =>
    (k_ok 34 h l0).bind fun _ =>
    (fX35_category l0 x10 h).bind fun q13 =>
    if ¬ q13.1 = (10 : Int32) then
      fX35_readName_b141 N l0 l0 (1 : Int32) q13.2
    else
      fX35_readName_b141 N l0 l0 (2 : Int32) q13.2
theorem pX35_readName_b106 {w : eW} {d : Nat} (hd : 2 ≤ d + 1) {N : Nat} {l0 : Nat} {h : eH} {q} (hf : fX35_readName_b106 N l0 h = some q) : wp w (d + 1) YX35_readName 106 [some (.ref l0)] [] h (e_is (e_rn c_I q)) := by
  unfold fX35_readName_b106 at hf
  refine w_aload_n dX35_readName_106 rfl rfl ?_
  obtain ⟨x1, b2, hf⟩ := Option.bind_eq_some_iff.mp hf
  refine GX35_335 b2 dX35_readName_107 rfl ?_
  refine w_aload_n dX35_readName_110 rfl rfl ?_
  obtain ⟨x3, b4, hf⟩ := Option.bind_eq_some_iff.mp hf
  refine GX35_332 b4 dX35_readName_111 rfl ?_
  refine w_icmp_ge 167 dX35_readName_114 (by decide) (fun c5 => ?_) (fun c5 => ?_)
  · replace hf := (if_pos (show x3 ≤ x1 from c5)).symm.trans hf
    exact (pX35_readName_b167 hd hf).to ⟨rfl, trivial⟩
  · replace hf := (if_neg (show ¬ (x3 ≤ x1) from c5)).symm.trans hf
    refine w_aload_n dX35_readName_117 rfl rfl ?_
    refine w_aload_n dX35_readName_118 rfl rfl ?_
    refine w_aload_n dX35_readName_119 rfl rfl ?_
    obtain ⟨a6, b7, hf⟩ := Option.bind_eq_some_iff.mp hf
    refine GX35_47 b7 dX35_readName_120 rfl ?_
    refine w_aload_n dX35_readName_123 rfl rfl ?_
    obtain ⟨x8, b9, hf⟩ := Option.bind_eq_some_iff.mp hf
    refine GX35_335 b9 dX35_readName_124 rfl ?_
    obtain ⟨x10, b11, hf⟩ := Option.bind_eq_some_iff.mp hf
    refine x_rI b11 dX35_readName_127 ?_
    obtain ⟨_, b12, hf⟩ := Option.bind_eq_some_iff.mp hf
    refine x_cnI hf (e_stV (Yc := YX35_category) (ci := 34) (av := [.int x10]) (st := [.ref l0]) dX35_readName_128 q5093 mX35_category rfl (k_ok_some b12).1 (k_ok_some b12).2) mX35_category.2.2.1 mX35_category.2.2.2.2.1 (Nat.le_of_ble_eq_true rfl) (Nat.le_of_ble_eq_true rfl) (fun q hq => pX35_category (by omega) hq) (fun q13 hf => ?_)
    refine w_bipush dX35_readName_131 (v := 10) (by decide) ?_
    refine w_icmp_ne 140 dX35_readName_133 (by decide) (fun c14 => ?_) (fun c14 => ?_)
    · replace hf := (if_pos (show ¬ q13.1 = (10 : Int32) from c14)).symm.trans hf
      refine w_iconst dX35_readName_140 (v := 1) (by decide) ?_
      exact (pX35_readName_b141 hd hf).to ⟨rfl, trivial⟩
    · replace hf := (if_neg (show ¬ (¬ q13.1 = (10 : Int32)) from (fun z => z c14))).symm.trans hf
      refine w_iconst dX35_readName_136 (v := 2) (by decide) ?_
      refine w_goto 141 dX35_readName_137 (by decide) ?_
      exact (pX35_readName_b141 hd hf).to ⟨rfl, trivial⟩
def fX35_readName (N : Nat) (this : Nat) (h : eH) : Option (Int32 × eH) :=
  (p_V 34 h this 19 (.int (0 : Int32))).bind fun h1 =>
  (p_V 34 h1 this 14 (.int (1 : Int32))).bind fun h3 =>
  (g_I 34 h3 this 13).bind fun x5 =>
  (g_I 34 h3 this 12).bind fun x7 =>
  if x7 ≤ x5 then
    fX35_readName_b106 N this h3
  else
    (g_A 34 h3 this 11).bind fun a10 =>
    (g_I 34 h3 this 13).bind fun x12 =>
    (r_I 100 h3 a10 x12).bind fun x14 =>
    (k_ok 34 h3 this).bind fun _ =>
    (fX35_category this x14 h3).bind fun q17 =>
    if ¬ q17.1 = (11 : Int32) then
      fX35_readName_b106 N this q17.2
    else
      (p_V 34 q17.2 this 14 (.int (2 : Int32))).bind fun h19 =>
      fX35_readName_b44 N N this h19
theorem pX35_readName {w : eW} {d : Nat} (hd : 2 ≤ d) {N : Nat} {this : Nat} {h : eH} {q} (hf : fX35_readName N this h = some q) : wm w d YX35_readName [.ref this] h (e_is (e_rn c_I q)) := by
  obtain ⟨d, rfl⟩ : ∃ e, d = e + 1 := ⟨d - 1, by omega⟩
  show wp w (d + 1) YX35_readName 0 [some (.ref this)] [] h _
  unfold fX35_readName at hf
  refine w_aload_n dX35_readName_0 rfl rfl ?_
  refine w_iconst dX35_readName_1 (v := 0) (by decide) ?_
  obtain ⟨h1, b2, hf⟩ := Option.bind_eq_some_iff.mp hf
  refine SX35_413 b2 dX35_readName_2 rfl ?_
  refine w_aload_n dX35_readName_5 rfl rfl ?_
  refine w_iconst dX35_readName_6 (v := 1) (by decide) ?_
  obtain ⟨h3, b4, hf⟩ := Option.bind_eq_some_iff.mp hf
  refine SX35_338 b4 dX35_readName_7 rfl ?_
  refine w_aload_n dX35_readName_10 rfl rfl ?_
  obtain ⟨x5, b6, hf⟩ := Option.bind_eq_some_iff.mp hf
  refine GX35_335 b6 dX35_readName_11 rfl ?_
  refine w_aload_n dX35_readName_14 rfl rfl ?_
  obtain ⟨x7, b8, hf⟩ := Option.bind_eq_some_iff.mp hf
  refine GX35_332 b8 dX35_readName_15 rfl ?_
  refine w_icmp_ge 106 dX35_readName_18 (by decide) (fun c9 => ?_) (fun c9 => ?_)
  · replace hf := (if_pos (show x7 ≤ x5 from c9)).symm.trans hf
    exact (pX35_readName_b106 hd hf).to ⟨rfl, trivial⟩
  · replace hf := (if_neg (show ¬ (x7 ≤ x5) from c9)).symm.trans hf
    refine w_aload_n dX35_readName_21 rfl rfl ?_
    refine w_aload_n dX35_readName_22 rfl rfl ?_
    obtain ⟨a10, b11, hf⟩ := Option.bind_eq_some_iff.mp hf
    refine GX35_47 b11 dX35_readName_23 rfl ?_
    refine w_aload_n dX35_readName_26 rfl rfl ?_
    obtain ⟨x12, b13, hf⟩ := Option.bind_eq_some_iff.mp hf
    refine GX35_335 b13 dX35_readName_27 rfl ?_
    obtain ⟨x14, b15, hf⟩ := Option.bind_eq_some_iff.mp hf
    refine x_rI b15 dX35_readName_30 ?_
    obtain ⟨_, b16, hf⟩ := Option.bind_eq_some_iff.mp hf
    refine x_cnI hf (e_stV (Yc := YX35_category) (ci := 34) (av := [.int x14]) (st := []) dX35_readName_31 q5093 mX35_category rfl (k_ok_some b16).1 (k_ok_some b16).2) mX35_category.2.2.1 mX35_category.2.2.2.2.1 (Nat.le_of_ble_eq_true rfl) (Nat.le_of_ble_eq_true rfl) (fun q hq => pX35_category (by omega) hq) (fun q17 hf => ?_)
    refine w_bipush dX35_readName_34 (v := 11) (by decide) ?_
    refine w_icmp_ne 106 dX35_readName_36 (by decide) (fun c18 => ?_) (fun c18 => ?_)
    · replace hf := (if_pos (show ¬ q17.1 = (11 : Int32) from c18)).symm.trans hf
      exact (pX35_readName_b106 hd hf).to ⟨rfl, trivial⟩
    · replace hf := (if_neg (show ¬ (¬ q17.1 = (11 : Int32)) from (fun z => z c18))).symm.trans hf
      refine w_aload_n dX35_readName_39 rfl rfl ?_
      refine w_iconst dX35_readName_40 (v := 2) (by decide) ?_
      obtain ⟨h19, b20, hf⟩ := Option.bind_eq_some_iff.mp hf
      refine SX35_338 b20 dX35_readName_41 rfl ?_
      exact (pX35_readName_b44 hd N _ _ _ hf).to ⟨rfl, trivial⟩
abbrev cX35_read : ByteArray := prog_37_method_24_code
def yX35_read : MethodName := ⟨RX35, "read", "()I"⟩
def YX35_read : eY := (yX35_read, cX35_read, 3, (Option.some FieldType.int), [])
theorem mX35_read : e_mv YX35_read RX35 0 := ⟨q5087, qs238, q5088, by decide, by decide +kernel, (e_sig (by decide +kernel))⟩
theorem dX35_read_0 : decode cX35_read 0 = .ok (.aload_n 0, 1) := dc_42 (by decide +kernel)
theorem dX35_read_1 : decode cX35_read 1 = .ok (.getfield 335, 3) := dc_180 (a := 1) (b := 79) (n := 335) (by decide +kernel)
theorem dX35_read_4 : decode cX35_read 4 = .ok (.aload_n 0, 1) := dc_42 (by decide +kernel)
theorem dX35_read_5 : decode cX35_read 5 = .ok (.getfield 332, 3) := dc_180 (a := 1) (b := 76) (n := 332) (by decide +kernel)
theorem dX35_read_8 : decode cX35_read 8 = .ok (.if_icmp .ne 12, 3) := dc_160 (a := 0) (b := 12) (v := 12) (by decide +kernel)
theorem dX35_read_11 : decode cX35_read 11 = .ok (.aload_n 0, 1) := dc_42 (by decide +kernel)
theorem dX35_read_12 : decode cX35_read 12 = .ok (.invokevirtual 444, 3) := dc_182 (a := 1) (b := 188) (n := 444) (by decide +kernel)
theorem dX35_read_15 : decode cX35_read 15 = .ok (.ifCond .ne 5, 3) := dc_154 (a := 0) (b := 5) (v := 5) (by decide +kernel)
theorem dX35_read_18 : decode cX35_read 18 = .ok (.iconst (-1), 1) := dc_2 (by decide +kernel)
theorem dX35_read_19 : decode cX35_read 19 = .ok (.ireturn, 1) := dc_172 (by decide +kernel)
theorem dX35_read_20 : decode cX35_read 20 = .ok (.aload_n 0, 1) := dc_42 (by decide +kernel)
theorem dX35_read_21 : decode cX35_read 21 = .ok (.getfield 47, 3) := dc_180 (a := 0) (b := 47) (n := 47) (by decide +kernel)
theorem dX35_read_24 : decode cX35_read 24 = .ok (.aload_n 0, 1) := dc_42 (by decide +kernel)
theorem dX35_read_25 : decode cX35_read 25 = .ok (.getfield 335, 3) := dc_180 (a := 1) (b := 79) (n := 335) (by decide +kernel)
theorem dX35_read_28 : decode cX35_read 28 = .ok (.iaload, 1) := dc_46 (by decide +kernel)
theorem dX35_read_29 : decode cX35_read 29 = .ok (.istore_n 1, 1) := dc_60 (by decide +kernel)
theorem dX35_read_30 : decode cX35_read 30 = .ok (.aload_n 0, 1) := dc_42 (by decide +kernel)
theorem dX35_read_31 : decode cX35_read 31 = .ok (.dup, 1) := dc_89 (by decide +kernel)
theorem dX35_read_32 : decode cX35_read 32 = .ok (.getfield 335, 3) := dc_180 (a := 1) (b := 79) (n := 335) (by decide +kernel)
theorem dX35_read_35 : decode cX35_read 35 = .ok (.iconst 1, 1) := dc_4 (by decide +kernel)
theorem dX35_read_36 : decode cX35_read 36 = .ok (.iadd, 1) := dc_96 (by decide +kernel)
theorem dX35_read_37 : decode cX35_read 37 = .ok (.putfield 335, 3) := dc_181 (a := 1) (b := 79) (n := 335) (by decide +kernel)
theorem dX35_read_40 : decode cX35_read 40 = .ok (.aload_n 0, 1) := dc_42 (by decide +kernel)
theorem dX35_read_41 : decode cX35_read 41 = .ok (.iload_n 1, 1) := dc_27 (by decide +kernel)
theorem dX35_read_42 : decode cX35_read 42 = .ok (.invokevirtual 435, 3) := dc_182 (a := 1) (b := 179) (n := 435) (by decide +kernel)
theorem dX35_read_45 : decode cX35_read 45 = .ok (.istore_n 2, 1) := dc_61 (by decide +kernel)
theorem dX35_read_46 : decode cX35_read 46 = .ok (.iload_n 2, 1) := dc_28 (by decide +kernel)
theorem dX35_read_47 : decode cX35_read 47 = .ok (.ifCond .ne 8, 3) := dc_154 (a := 0) (b := 8) (v := 8) (by decide +kernel)
theorem dX35_read_50 : decode cX35_read 50 = .ok (.aload_n 0, 1) := dc_42 (by decide +kernel)
theorem dX35_read_51 : decode cX35_read 51 = .ok (.invokevirtual 448, 3) := dc_182 (a := 1) (b := 192) (n := 448) (by decide +kernel)
theorem dX35_read_54 : decode cX35_read 54 = .ok (.ireturn, 1) := dc_172 (by decide +kernel)
theorem dX35_read_55 : decode cX35_read 55 = .ok (.iload_n 2, 1) := dc_28 (by decide +kernel)
theorem dX35_read_56 : decode cX35_read 56 = .ok (.iconst 5, 1) := dc_8 (by decide +kernel)
theorem dX35_read_57 : decode cX35_read 57 = .ok (.if_icmp .ne 36, 3) := dc_160 (a := 0) (b := 36) (v := 36) (by decide +kernel)
theorem dX35_read_60 : decode cX35_read 60 = .ok (.aload_n 0, 1) := dc_42 (by decide +kernel)
theorem dX35_read_61 : decode cX35_read 61 = .ok (.aload_n 0, 1) := dc_42 (by decide +kernel)
theorem dX35_read_62 : decode cX35_read 62 = .ok (.getfield 332, 3) := dc_180 (a := 1) (b := 76) (n := 332) (by decide +kernel)
theorem dX35_read_65 : decode cX35_read 65 = .ok (.putfield 335, 3) := dc_181 (a := 1) (b := 79) (n := 335) (by decide +kernel)
theorem dX35_read_68 : decode cX35_read 68 = .ok (.aload_n 0, 1) := dc_42 (by decide +kernel)
theorem dX35_read_69 : decode cX35_read 69 = .ok (.getfield 338, 3) := dc_180 (a := 1) (b := 82) (n := 338) (by decide +kernel)
theorem dX35_read_72 : decode cX35_read 72 = .ok (.iconst 2, 1) := dc_5 (by decide +kernel)
theorem dX35_read_73 : decode cX35_read 73 = .ok (.if_icmp .ge 109, 3) := dc_162 (a := 0) (b := 109) (v := 109) (by decide +kernel)
theorem dX35_read_76 : decode cX35_read 76 = .ok (.aload_n 0, 1) := dc_42 (by decide +kernel)
theorem dX35_read_77 : decode cX35_read 77 = .ok (.getfield 338, 3) := dc_180 (a := 1) (b := 82) (n := 338) (by decide +kernel)
theorem dX35_read_80 : decode cX35_read 80 = .ok (.ifCond .ne 9, 3) := dc_154 (a := 0) (b := 9) (v := 9) (by decide +kernel)
theorem dX35_read_83 : decode cX35_read 83 = .ok (.ldc_w 451, 3) := dc_19 (a := 1) (b := 195) (n := 451) (by decide +kernel)
theorem dX35_read_86 : decode cX35_read 86 = .ok (.goto 6, 3) := dc_167 (a := 0) (b := 6) (v := 6) (by decide +kernel)
theorem dX35_read_89 : decode cX35_read 89 = .ok (.sipush 2592, 3) := dc_17 (a := 10) (b := 32) (v := 2592) (by decide +kernel)
theorem dX35_read_92 : decode cX35_read 92 = .ok (.ireturn, 1) := dc_172 (by decide +kernel)
theorem dX35_read_93 : decode cX35_read 93 = .ok (.iload_n 2, 1) := dc_28 (by decide +kernel)
theorem dX35_read_94 : decode cX35_read 94 = .ok (.bipush 10, 2) := dc_16 (a := 10) (v := 10) (by decide +kernel)
theorem dX35_read_96 : decode cX35_read 96 = .ok (.if_icmp .ne 20, 3) := dc_160 (a := 0) (b := 20) (v := 20) (by decide +kernel)
theorem dX35_read_99 : decode cX35_read 99 = .ok (.aload_n 0, 1) := dc_42 (by decide +kernel)
theorem dX35_read_100 : decode cX35_read 100 = .ok (.getfield 338, 3) := dc_180 (a := 1) (b := 82) (n := 338) (by decide +kernel)
theorem dX35_read_103 : decode cX35_read 103 = .ok (.iconst 1, 1) := dc_4 (by decide +kernel)
theorem dX35_read_104 : decode cX35_read 104 = .ok (.if_icmp .ne 78, 3) := dc_160 (a := 0) (b := 78) (v := 78) (by decide +kernel)
theorem dX35_read_107 : decode cX35_read 107 = .ok (.aload_n 0, 1) := dc_42 (by decide +kernel)
theorem dX35_read_108 : decode cX35_read 108 = .ok (.iconst 2, 1) := dc_5 (by decide +kernel)
theorem dX35_read_109 : decode cX35_read 109 = .ok (.putfield 338, 3) := dc_181 (a := 1) (b := 82) (n := 338) (by decide +kernel)
theorem dX35_read_112 : decode cX35_read 112 = .ok (.sipush 2592, 3) := dc_17 (a := 10) (b := 32) (v := 2592) (by decide +kernel)
theorem dX35_read_115 : decode cX35_read 115 = .ok (.ireturn, 1) := dc_172 (by decide +kernel)
theorem dX35_read_116 : decode cX35_read 116 = .ok (.iload_n 2, 1) := dc_28 (by decide +kernel)
theorem dX35_read_117 : decode cX35_read 117 = .ok (.bipush 13, 2) := dc_16 (a := 13) (v := 13) (by decide +kernel)
theorem dX35_read_119 : decode cX35_read 119 = .ok (.if_icmp .ne 14, 3) := dc_160 (a := 0) (b := 14) (v := 14) (by decide +kernel)
theorem dX35_read_122 : decode cX35_read 122 = .ok (.aload_n 0, 1) := dc_42 (by decide +kernel)
theorem dX35_read_123 : decode cX35_read 123 = .ok (.iconst 1, 1) := dc_4 (by decide +kernel)
theorem dX35_read_124 : decode cX35_read 124 = .ok (.putfield 338, 3) := dc_181 (a := 1) (b := 82) (n := 338) (by decide +kernel)
theorem dX35_read_127 : decode cX35_read 127 = .ok (.ldc_w 452, 3) := dc_19 (a := 1) (b := 196) (n := 452) (by decide +kernel)
theorem dX35_read_130 : decode cX35_read 130 = .ok (.iload_n 1, 1) := dc_27 (by decide +kernel)
theorem dX35_read_131 : decode cX35_read 131 = .ok (.iadd, 1) := dc_96 (by decide +kernel)
theorem dX35_read_132 : decode cX35_read 132 = .ok (.ireturn, 1) := dc_172 (by decide +kernel)
theorem dX35_read_133 : decode cX35_read 133 = .ok (.iload_n 2, 1) := dc_28 (by decide +kernel)
theorem dX35_read_134 : decode cX35_read 134 = .ok (.bipush 14, 2) := dc_16 (a := 14) (v := 14) (by decide +kernel)
theorem dX35_read_136 : decode cX35_read 136 = .ok (.if_icmp .ne 14, 3) := dc_160 (a := 0) (b := 14) (v := 14) (by decide +kernel)
theorem dX35_read_139 : decode cX35_read 139 = .ok (.aload_n 0, 1) := dc_42 (by decide +kernel)
theorem dX35_read_140 : decode cX35_read 140 = .ok (.aload_n 0, 1) := dc_42 (by decide +kernel)
theorem dX35_read_141 : decode cX35_read 141 = .ok (.getfield 332, 3) := dc_180 (a := 1) (b := 76) (n := 332) (by decide +kernel)
theorem dX35_read_144 : decode cX35_read 144 = .ok (.putfield 335, 3) := dc_181 (a := 1) (b := 79) (n := 335) (by decide +kernel)
theorem dX35_read_147 : decode cX35_read 147 = .ok (.goto 35, 3) := dc_167 (a := 0) (b := 35) (v := 35) (by decide +kernel)
theorem dX35_read_150 : decode cX35_read 150 = .ok (.iload_n 2, 1) := dc_28 (by decide +kernel)
theorem dX35_read_151 : decode cX35_read 151 = .ok (.bipush 15, 2) := dc_16 (a := 15) (v := 15) (by decide +kernel)
theorem dX35_read_153 : decode cX35_read 153 = .ok (.if_icmp .ne 10, 3) := dc_160 (a := 0) (b := 10) (v := 10) (by decide +kernel)
theorem dX35_read_156 : decode cX35_read 156 = .ok (.aload_n 0, 1) := dc_42 (by decide +kernel)
theorem dX35_read_157 : decode cX35_read 157 = .ok (.iconst 1, 1) := dc_4 (by decide +kernel)
theorem dX35_read_158 : decode cX35_read 158 = .ok (.invokevirtual 428, 3) := dc_182 (a := 1) (b := 172) (n := 428) (by decide +kernel)
theorem dX35_read_161 : decode cX35_read 161 = .ok (.iconst (-1), 1) := dc_2 (by decide +kernel)
theorem dX35_read_162 : decode cX35_read 162 = .ok (.ireturn, 1) := dc_172 (by decide +kernel)
theorem dX35_read_163 : decode cX35_read 163 = .ok (.iload_n 2, 1) := dc_28 (by decide +kernel)
theorem dX35_read_164 : decode cX35_read 164 = .ok (.bipush 9, 2) := dc_16 (a := 9) (v := 9) (by decide +kernel)
theorem dX35_read_166 : decode cX35_read 166 = .ok (.if_icmp .eq 16, 3) := dc_159 (a := 0) (b := 16) (v := 16) (by decide +kernel)
theorem dX35_read_169 : decode cX35_read 169 = .ok (.aload_n 0, 1) := dc_42 (by decide +kernel)
theorem dX35_read_170 : decode cX35_read 170 = .ok (.iconst 1, 1) := dc_4 (by decide +kernel)
theorem dX35_read_171 : decode cX35_read 171 = .ok (.putfield 338, 3) := dc_181 (a := 1) (b := 82) (n := 338) (by decide +kernel)
theorem dX35_read_174 : decode cX35_read 174 = .ok (.sipush 256, 3) := dc_17 (a := 1) (b := 0) (v := 256) (by decide +kernel)
theorem dX35_read_177 : decode cX35_read 177 = .ok (.iload_n 2, 1) := dc_28 (by decide +kernel)
theorem dX35_read_178 : decode cX35_read 178 = .ok (.imul, 1) := dc_104 (by decide +kernel)
theorem dX35_read_179 : decode cX35_read 179 = .ok (.iload_n 1, 1) := dc_27 (by decide +kernel)
theorem dX35_read_180 : decode cX35_read 180 = .ok (.iadd, 1) := dc_96 (by decide +kernel)
theorem dX35_read_181 : decode cX35_read 181 = .ok (.ireturn, 1) := dc_172 (by decide +kernel)
theorem dX35_read_182 : decode cX35_read 182 = .ok (.goto (-182), 3) := dc_167 (a := 255) (b := 74) (v := -182) (by decide +kernel)
theorem GX35_338 {w : eW} {d : Nat} {Y : eY} {pc : Nat} {ls : eL} {st : List Value} {h : eH} {Q : eO → eH → Prop} {a : Nat} {x : Int32} (hf : g_I 34 h a 14 = some x) (hd : decode Y.2.1 pc = .ok (.getfield 338, 3)) (hY : Y.1.cls = RX35) (kk : wp w d Y (pc + 3) ls (.int x :: st) h Q) : wp w d Y pc ls (.ref a :: st) h Q := x_gI (ci := 34) (k := 14) hf hd rfl (by decide) (by rw [hY]; exact q4516) kk
def fX35_read_b92 (N : Nat) (s0 : Int32) (h : eH) : Option (Int32 × eH) :=
  some (s0, h)
theorem pX35_read_b92 {w : eW} {d : Nat} (hd : 3 ≤ d + 1) {N : Nat} {s0 : Int32} {h : eH} {q} (hf : fX35_read_b92 N s0 h = some q) : wp w (d + 1) YX35_read 92 [none, none, none] [.int s0] h (e_is (e_rn c_I q)) := by
  unfold fX35_read_b92 at hf
  cases hf
  exact w_iret dX35_read_92 rfl rfl rfl
def fX35_read_b182 (N : Nat) (k0 : Nat → eH → Option (Int32 × eH)) (l0 : Nat) (h : eH) : Option (Int32 × eH) :=
  k0 l0 h
theorem pX35_read_b182 {w : eW} {d : Nat} (hd : 3 ≤ d + 1) {N : Nat} {k0 : Nat → eH → Option (Int32 × eH)} (hk0 : ∀ l0 h q, k0 l0 h = some q → wp w (d + 1) YX35_read 0 [some (.ref l0), none, none] [] h (e_is (e_rn c_I q))) {l0 : Nat} {h : eH} {q} (hf : fX35_read_b182 N k0 l0 h = some q) : wp w (d + 1) YX35_read 182 [some (.ref l0), none, none] [] h (e_is (e_rn c_I q)) := by
  unfold fX35_read_b182 at hf
  refine w_goto 0 dX35_read_182 (by decide) ?_
  exact (hk0 _ _ _ hf).to ⟨rfl, trivial⟩
def fX35_read_b20 (N : Nat) (k0 : Nat → eH → Option (Int32 × eH)) (l0 : Nat) (h : eH) : Option (Int32 × eH) :=
  (g_A 34 h l0 11).bind fun a1 =>
  (g_I 34 h l0 13).bind fun x3 =>
  (r_I 100 h a1 x3).bind fun x5 =>
  (g_I 34 h l0 13).bind fun x7 =>
  (p_V 34 h l0 13 (.int (x7 + (1 : Int32)))).bind fun h9 =>
  (k_ok 34 h9 l0).bind fun _ =>
  (fX35_category l0 x5 h9).bind fun q12 =>
  if ¬ q12.1 = 0 then
    if ¬ q12.1 = (5 : Int32) then
      if ¬ q12.1 = (10 : Int32) then
        if ¬ q12.1 = (13 : Int32) then
          if ¬ q12.1 = (14 : Int32) then
            if ¬ q12.1 = (15 : Int32) then
              if q12.1 = (9 : Int32) then
                fX35_read_b182 N k0 l0 q12.2
              else
                (p_V 34 q12.2 l0 14 (.int (1 : Int32))).bind fun h20 =>
                some ((((256 : Int32) * q12.1) + x5), h20)
            else
              (k_ok 34 q12.2 l0).bind fun _ =>
              (fX35_fail l0 (1 : Int32) q12.2).bind fun q23 =>
              some ((-1 : Int32), q23.2)
          else
            (g_I 34 q12.2 l0 12).bind fun x24 =>
            (p_V 34 q12.2 l0 13 (.int x24)).bind fun h26 =>
            fX35_read_b182 N k0 l0 h26
        else
          (p_V 34 q12.2 l0 14 (.int (1 : Int32))).bind fun h28 =>
          some (((131072 : Int32) + x5), h28)
      else
        (g_I 34 q12.2 l0 14).bind fun x30 =>
        if ¬ x30 = (1 : Int32) then
          fX35_read_b182 N k0 l0 q12.2
        else
          (p_V 34 q12.2 l0 14 (.int (2 : Int32))).bind fun h33 =>
          some ((2592 : Int32), h33)
    else
      (g_I 34 q12.2 l0 12).bind fun x35 =>
      (p_V 34 q12.2 l0 13 (.int x35)).bind fun h37 =>
      (g_I 34 h37 l0 14).bind fun x39 =>
      if (2 : Int32) ≤ x39 then
        fX35_read_b182 N k0 l0 h37
      else
        (g_I 34 h37 l0 14).bind fun x42 =>
        if ¬ x42 = 0 then
          fX35_read_b92 N (2592 : Int32) h37
        else
          fX35_read_b92 N (65559 : Int32) h37
  else
    (k_ok 34 q12.2 l0).bind fun _ =>
    (fX35_readName N l0 q12.2).bind fun q46 =>
    some (q46.1, q46.2)
theorem pX35_read_b20 {w : eW} {d : Nat} (hd : 3 ≤ d + 1) {N : Nat} {k0 : Nat → eH → Option (Int32 × eH)} (hk0 : ∀ l0 h q, k0 l0 h = some q → wp w (d + 1) YX35_read 0 [some (.ref l0), none, none] [] h (e_is (e_rn c_I q))) {l0 : Nat} {h : eH} {q} (hf : fX35_read_b20 N k0 l0 h = some q) : wp w (d + 1) YX35_read 20 [some (.ref l0), none, none] [] h (e_is (e_rn c_I q)) := by
  unfold fX35_read_b20 at hf
  refine w_aload_n dX35_read_20 rfl rfl ?_
  obtain ⟨a1, b2, hf⟩ := Option.bind_eq_some_iff.mp hf
  refine GX35_47 b2 dX35_read_21 rfl ?_
  refine w_aload_n dX35_read_24 rfl rfl ?_
  obtain ⟨x3, b4, hf⟩ := Option.bind_eq_some_iff.mp hf
  refine GX35_335 b4 dX35_read_25 rfl ?_
  obtain ⟨x5, b6, hf⟩ := Option.bind_eq_some_iff.mp hf
  refine x_rI b6 dX35_read_28 ?_
  refine w_istore_n dX35_read_29 rfl (by decide) (ls' := [some (.ref l0), some (.int x5), none]) rfl ?_
  refine w_aload_n dX35_read_30 rfl rfl ?_
  refine w_dup dX35_read_31 rfl ?_
  obtain ⟨x7, b8, hf⟩ := Option.bind_eq_some_iff.mp hf
  refine GX35_335 b8 dX35_read_32 rfl ?_
  refine w_iconst dX35_read_35 (v := 1) (by decide) ?_
  refine w_iadd dX35_read_36 ?_
  obtain ⟨h9, b10, hf⟩ := Option.bind_eq_some_iff.mp hf
  refine SX35_335 b10 dX35_read_37 rfl ?_
  refine w_aload_n dX35_read_40 rfl rfl ?_
  refine w_iload_n dX35_read_41 rfl rfl ?_
  obtain ⟨_, b11, hf⟩ := Option.bind_eq_some_iff.mp hf
  refine x_cnI hf (e_stV (Yc := YX35_category) (ci := 34) (av := [.int x5]) (st := []) dX35_read_42 q5093 mX35_category rfl (k_ok_some b11).1 (k_ok_some b11).2) mX35_category.2.2.1 mX35_category.2.2.2.2.1 (Nat.le_of_ble_eq_true rfl) (Nat.le_of_ble_eq_true rfl) (fun q hq => pX35_category (by omega) hq) (fun q12 hf => ?_)
  refine w_istore_n dX35_read_45 rfl (by decide) (ls' := [some (.ref l0), some (.int x5), some (.int q12.1)]) rfl ?_
  refine w_iload_n dX35_read_46 rfl rfl ?_
  refine w_if_ne 55 dX35_read_47 (by decide) (fun c13 => ?_) (fun c13 => ?_)
  · replace hf := (if_pos (show ¬ q12.1 = 0 from c13)).symm.trans hf
    refine w_iload_n dX35_read_55 rfl rfl ?_
    refine w_iconst dX35_read_56 (v := 5) (by decide) ?_
    refine w_icmp_ne 93 dX35_read_57 (by decide) (fun c14 => ?_) (fun c14 => ?_)
    · replace hf := (if_pos (show ¬ q12.1 = (5 : Int32) from c14)).symm.trans hf
      refine w_iload_n dX35_read_93 rfl rfl ?_
      refine w_bipush dX35_read_94 (v := 10) (by decide) ?_
      refine w_icmp_ne 116 dX35_read_96 (by decide) (fun c15 => ?_) (fun c15 => ?_)
      · replace hf := (if_pos (show ¬ q12.1 = (10 : Int32) from c15)).symm.trans hf
        refine w_iload_n dX35_read_116 rfl rfl ?_
        refine w_bipush dX35_read_117 (v := 13) (by decide) ?_
        refine w_icmp_ne 133 dX35_read_119 (by decide) (fun c16 => ?_) (fun c16 => ?_)
        · replace hf := (if_pos (show ¬ q12.1 = (13 : Int32) from c16)).symm.trans hf
          refine w_iload_n dX35_read_133 rfl rfl ?_
          refine w_bipush dX35_read_134 (v := 14) (by decide) ?_
          refine w_icmp_ne 150 dX35_read_136 (by decide) (fun c17 => ?_) (fun c17 => ?_)
          · replace hf := (if_pos (show ¬ q12.1 = (14 : Int32) from c17)).symm.trans hf
            refine w_iload_n dX35_read_150 rfl rfl ?_
            refine w_bipush dX35_read_151 (v := 15) (by decide) ?_
            refine w_icmp_ne 163 dX35_read_153 (by decide) (fun c18 => ?_) (fun c18 => ?_)
            · replace hf := (if_pos (show ¬ q12.1 = (15 : Int32) from c18)).symm.trans hf
              refine w_iload_n dX35_read_163 rfl rfl ?_
              refine w_bipush dX35_read_164 (v := 9) (by decide) ?_
              refine w_icmp_eq 182 dX35_read_166 (by decide) (fun c19 => ?_) (fun c19 => ?_)
              · replace hf := (if_pos (show q12.1 = (9 : Int32) from c19)).symm.trans hf
                exact (pX35_read_b182 hd hk0 hf).to ⟨rfl, trivial⟩
              · replace hf := (if_neg (show ¬ (q12.1 = (9 : Int32)) from c19)).symm.trans hf
                refine w_aload_n dX35_read_169 rfl rfl ?_
                refine w_iconst dX35_read_170 (v := 1) (by decide) ?_
                obtain ⟨h20, b21, hf⟩ := Option.bind_eq_some_iff.mp hf
                refine SX35_338 b21 dX35_read_171 rfl ?_
                refine w_sipush dX35_read_174 (v := 256) (by decide) ?_
                refine w_iload_n dX35_read_177 rfl rfl ?_
                refine w_imul dX35_read_178 ?_
                refine w_iload_n dX35_read_179 rfl rfl ?_
                refine w_iadd dX35_read_180 ?_
                cases hf
                exact w_iret dX35_read_181 rfl rfl rfl
            · replace hf := (if_neg (show ¬ (¬ q12.1 = (15 : Int32)) from (fun z => z c18))).symm.trans hf
              refine w_aload_n dX35_read_156 rfl rfl ?_
              refine w_iconst dX35_read_157 (v := 1) (by decide) ?_
              obtain ⟨_, b22, hf⟩ := Option.bind_eq_some_iff.mp hf
              refine x_cnV hf (e_stV (Yc := YX35_fail) (ci := 34) (av := [.int (1 : Int32)]) (st := []) dX35_read_158 q5109 mX35_fail rfl (k_ok_some b22).1 (k_ok_some b22).2) mX35_fail.2.2.1 mX35_fail.2.2.2.2.1 (Nat.le_of_ble_eq_true rfl) (Nat.le_of_ble_eq_true rfl) (fun q hq => pX35_fail (by omega) hq) (fun q23 hf => ?_)
              refine w_iconst dX35_read_161 (v := -1) (by decide) ?_
              cases hf
              exact w_iret dX35_read_162 rfl rfl rfl
          · replace hf := (if_neg (show ¬ (¬ q12.1 = (14 : Int32)) from (fun z => z c17))).symm.trans hf
            refine w_aload_n dX35_read_139 rfl rfl ?_
            refine w_aload_n dX35_read_140 rfl rfl ?_
            obtain ⟨x24, b25, hf⟩ := Option.bind_eq_some_iff.mp hf
            refine GX35_332 b25 dX35_read_141 rfl ?_
            obtain ⟨h26, b27, hf⟩ := Option.bind_eq_some_iff.mp hf
            refine SX35_335 b27 dX35_read_144 rfl ?_
            refine w_goto 182 dX35_read_147 (by decide) ?_
            exact (pX35_read_b182 hd hk0 hf).to ⟨rfl, trivial⟩
        · replace hf := (if_neg (show ¬ (¬ q12.1 = (13 : Int32)) from (fun z => z c16))).symm.trans hf
          refine w_aload_n dX35_read_122 rfl rfl ?_
          refine w_iconst dX35_read_123 (v := 1) (by decide) ?_
          obtain ⟨h28, b29, hf⟩ := Option.bind_eq_some_iff.mp hf
          refine SX35_338 b29 dX35_read_124 rfl ?_
          refine w_ldc_w dX35_read_127 q5118 ?_
          refine w_iload_n dX35_read_130 rfl rfl ?_
          refine w_iadd dX35_read_131 ?_
          cases hf
          exact w_iret dX35_read_132 rfl rfl rfl
      · replace hf := (if_neg (show ¬ (¬ q12.1 = (10 : Int32)) from (fun z => z c15))).symm.trans hf
        refine w_aload_n dX35_read_99 rfl rfl ?_
        obtain ⟨x30, b31, hf⟩ := Option.bind_eq_some_iff.mp hf
        refine GX35_338 b31 dX35_read_100 rfl ?_
        refine w_iconst dX35_read_103 (v := 1) (by decide) ?_
        refine w_icmp_ne 182 dX35_read_104 (by decide) (fun c32 => ?_) (fun c32 => ?_)
        · replace hf := (if_pos (show ¬ x30 = (1 : Int32) from c32)).symm.trans hf
          exact (pX35_read_b182 hd hk0 hf).to ⟨rfl, trivial⟩
        · replace hf := (if_neg (show ¬ (¬ x30 = (1 : Int32)) from (fun z => z c32))).symm.trans hf
          refine w_aload_n dX35_read_107 rfl rfl ?_
          refine w_iconst dX35_read_108 (v := 2) (by decide) ?_
          obtain ⟨h33, b34, hf⟩ := Option.bind_eq_some_iff.mp hf
          refine SX35_338 b34 dX35_read_109 rfl ?_
          refine w_sipush dX35_read_112 (v := 2592) (by decide) ?_
          cases hf
          exact w_iret dX35_read_115 rfl rfl rfl
    · replace hf := (if_neg (show ¬ (¬ q12.1 = (5 : Int32)) from (fun z => z c14))).symm.trans hf
      refine w_aload_n dX35_read_60 rfl rfl ?_
      refine w_aload_n dX35_read_61 rfl rfl ?_
      obtain ⟨x35, b36, hf⟩ := Option.bind_eq_some_iff.mp hf
      refine GX35_332 b36 dX35_read_62 rfl ?_
      obtain ⟨h37, b38, hf⟩ := Option.bind_eq_some_iff.mp hf
      refine SX35_335 b38 dX35_read_65 rfl ?_
      refine w_aload_n dX35_read_68 rfl rfl ?_
      obtain ⟨x39, b40, hf⟩ := Option.bind_eq_some_iff.mp hf
      refine GX35_338 b40 dX35_read_69 rfl ?_
      refine w_iconst dX35_read_72 (v := 2) (by decide) ?_
      refine w_icmp_ge 182 dX35_read_73 (by decide) (fun c41 => ?_) (fun c41 => ?_)
      · replace hf := (if_pos (show (2 : Int32) ≤ x39 from c41)).symm.trans hf
        exact (pX35_read_b182 hd hk0 hf).to ⟨rfl, trivial⟩
      · replace hf := (if_neg (show ¬ ((2 : Int32) ≤ x39) from c41)).symm.trans hf
        refine w_aload_n dX35_read_76 rfl rfl ?_
        obtain ⟨x42, b43, hf⟩ := Option.bind_eq_some_iff.mp hf
        refine GX35_338 b43 dX35_read_77 rfl ?_
        refine w_if_ne 89 dX35_read_80 (by decide) (fun c44 => ?_) (fun c44 => ?_)
        · replace hf := (if_pos (show ¬ x42 = 0 from c44)).symm.trans hf
          refine w_sipush dX35_read_89 (v := 2592) (by decide) ?_
          exact (pX35_read_b92 hd hf).to trivial
        · replace hf := (if_neg (show ¬ (¬ x42 = 0) from (fun z => z c44))).symm.trans hf
          refine w_ldc_w dX35_read_83 q5117 ?_
          refine w_goto 92 dX35_read_86 (by decide) ?_
          exact (pX35_read_b92 hd hf).to trivial
  · replace hf := (if_neg (show ¬ (¬ q12.1 = 0) from (fun z => z c13))).symm.trans hf
    refine w_aload_n dX35_read_50 rfl rfl ?_
    obtain ⟨_, b45, hf⟩ := Option.bind_eq_some_iff.mp hf
    refine x_cnI hf (e_stV (Yc := YX35_readName) (ci := 34) (av := []) (st := []) dX35_read_51 q5101 mX35_readName rfl (k_ok_some b45).1 (k_ok_some b45).2) mX35_readName.2.2.1 mX35_readName.2.2.2.2.1 (Nat.le_of_ble_eq_true rfl) (Nat.le_of_ble_eq_true rfl) (fun q hq => pX35_readName (by omega) hq) (fun q46 hf => ?_)
    cases hf
    exact w_iret dX35_read_54 rfl rfl rfl
def fX35_read_b0 (N : Nat) : Nat → Nat → eH → Option (Int32 × eH)
  | 0, _, _ => none
  | n + 1, l0, h =>
    (g_I 34 h l0 13).bind fun x1 =>
    (g_I 34 h l0 12).bind fun x3 =>
    if ¬ x1 = x3 then
      fX35_read_b20 N (fX35_read_b0 N n) l0 h
    else
      (k_ok 34 h l0).bind fun _ =>
      (fX35_beginLine N l0 h).bind fun q7 =>
      if ¬ q7.1 = 0 then
        fX35_read_b20 N (fX35_read_b0 N n) l0 q7.2
      else
        some ((-1 : Int32), q7.2)
theorem pX35_read_b0 {w : eW} {d : Nat} (hd : 3 ≤ d + 1) {N : Nat} : ∀ (n : Nat) l0 h q, fX35_read_b0 N n l0 h = some q → wp w (d + 1) YX35_read 0 [some (.ref l0), none, none] [] h (e_is (e_rn c_I q)) := by
  intro n
  induction n with
  | zero => intro l0 h q hf; simp [fX35_read_b0] at hf
  | succ n ih =>
    intro l0 h q hf
    rw [fX35_read_b0] at hf
    refine w_aload_n dX35_read_0 rfl rfl ?_
    obtain ⟨x1, b2, hf⟩ := Option.bind_eq_some_iff.mp hf
    refine GX35_335 b2 dX35_read_1 rfl ?_
    refine w_aload_n dX35_read_4 rfl rfl ?_
    obtain ⟨x3, b4, hf⟩ := Option.bind_eq_some_iff.mp hf
    refine GX35_332 b4 dX35_read_5 rfl ?_
    refine w_icmp_ne 20 dX35_read_8 (by decide) (fun c5 => ?_) (fun c5 => ?_)
    · replace hf := (if_pos (show ¬ x1 = x3 from c5)).symm.trans hf
      exact (pX35_read_b20 hd ih hf).to ⟨rfl, trivial⟩
    · replace hf := (if_neg (show ¬ (¬ x1 = x3) from (fun z => z c5))).symm.trans hf
      refine w_aload_n dX35_read_11 rfl rfl ?_
      obtain ⟨_, b6, hf⟩ := Option.bind_eq_some_iff.mp hf
      refine x_cnI hf (e_stV (Yc := YX35_beginLine) (ci := 34) (av := []) (st := []) dX35_read_12 q5089 mX35_beginLine rfl (k_ok_some b6).1 (k_ok_some b6).2) mX35_beginLine.2.2.1 mX35_beginLine.2.2.2.2.1 (Nat.le_of_ble_eq_true rfl) (Nat.le_of_ble_eq_true rfl) (fun q hq => pX35_beginLine (by omega) hq) (fun q7 hf => ?_)
      refine w_if_ne 20 dX35_read_15 (by decide) (fun c8 => ?_) (fun c8 => ?_)
      · replace hf := (if_pos (show ¬ q7.1 = 0 from c8)).symm.trans hf
        exact (pX35_read_b20 hd ih hf).to ⟨rfl, trivial⟩
      · replace hf := (if_neg (show ¬ (¬ q7.1 = 0) from (fun z => z c8))).symm.trans hf
        refine w_iconst dX35_read_18 (v := -1) (by decide) ?_
        cases hf
        exact w_iret dX35_read_19 rfl rfl rfl
def fX35_read (N : Nat) (this : Nat) (h : eH) : Option (Int32 × eH) :=
  fX35_read_b0 N N this h
theorem pX35_read {w : eW} {d : Nat} (hd : 3 ≤ d) {N : Nat} {this : Nat} {h : eH} {q} (hf : fX35_read N this h = some q) : wm w d YX35_read [.ref this] h (e_is (e_rn c_I q)) := by
  obtain ⟨d, rfl⟩ : ∃ e, d = e + 1 := ⟨d - 1, by omega⟩
  show wp w (d + 1) YX35_read 0 [some (.ref this), none, none] [] h _
  unfold fX35_read at hf
  exact (pX35_read_b0 hd N _ _ _ hf).to ⟨rfl, trivial⟩
abbrev cX35_get : ByteArray := prog_37_method_25_code
def yX35_get : MethodName := ⟨RX35, "get", "()I"⟩
def YX35_get : eY := (yX35_get, cX35_get, 1, (Option.some FieldType.int), [])
theorem mX35_get : e_mv YX35_get RX35 0 := ⟨q5083, qs237, q5084, by decide, by decide +kernel, (e_sig (by decide +kernel))⟩
theorem dX35_get_0 : decode cX35_get 0 = .ok (.aload_n 0, 1) := dc_42 (by decide +kernel)
theorem dX35_get_1 : decode cX35_get 1 = .ok (.getfield 321, 3) := dc_180 (a := 1) (b := 65) (n := 321) (by decide +kernel)
theorem dX35_get_4 : decode cX35_get 4 = .ok (.ifCond .le 5, 3) := dc_158 (a := 0) (b := 5) (v := 5) (by decide +kernel)
theorem dX35_get_7 : decode cX35_get 7 = .ok (.iconst (-1), 1) := dc_2 (by decide +kernel)
theorem dX35_get_8 : decode cX35_get 8 = .ok (.ireturn, 1) := dc_172 (by decide +kernel)
theorem dX35_get_9 : decode cX35_get 9 = .ok (.aload_n 0, 1) := dc_42 (by decide +kernel)
theorem dX35_get_10 : decode cX35_get 10 = .ok (.getfield 347, 3) := dc_180 (a := 1) (b := 91) (n := 347) (by decide +kernel)
theorem dX35_get_13 : decode cX35_get 13 = .ok (.ifCond .le 23, 3) := dc_158 (a := 0) (b := 23) (v := 23) (by decide +kernel)
theorem dX35_get_16 : decode cX35_get 16 = .ok (.aload_n 0, 1) := dc_42 (by decide +kernel)
theorem dX35_get_17 : decode cX35_get 17 = .ok (.dup, 1) := dc_89 (by decide +kernel)
theorem dX35_get_18 : decode cX35_get 18 = .ok (.getfield 347, 3) := dc_180 (a := 1) (b := 91) (n := 347) (by decide +kernel)
theorem dX35_get_21 : decode cX35_get 21 = .ok (.iconst 1, 1) := dc_4 (by decide +kernel)
theorem dX35_get_22 : decode cX35_get 22 = .ok (.isub, 1) := dc_100 (by decide +kernel)
theorem dX35_get_23 : decode cX35_get 23 = .ok (.putfield 347, 3) := dc_181 (a := 1) (b := 91) (n := 347) (by decide +kernel)
theorem dX35_get_26 : decode cX35_get 26 = .ok (.aload_n 0, 1) := dc_42 (by decide +kernel)
theorem dX35_get_27 : decode cX35_get 27 = .ok (.getfield 105, 3) := dc_180 (a := 0) (b := 105) (n := 105) (by decide +kernel)
theorem dX35_get_30 : decode cX35_get 30 = .ok (.aload_n 0, 1) := dc_42 (by decide +kernel)
theorem dX35_get_31 : decode cX35_get 31 = .ok (.getfield 347, 3) := dc_180 (a := 1) (b := 91) (n := 347) (by decide +kernel)
theorem dX35_get_34 : decode cX35_get 34 = .ok (.iaload, 1) := dc_46 (by decide +kernel)
theorem dX35_get_35 : decode cX35_get 35 = .ok (.ireturn, 1) := dc_172 (by decide +kernel)
theorem dX35_get_36 : decode cX35_get 36 = .ok (.aload_n 0, 1) := dc_42 (by decide +kernel)
theorem dX35_get_37 : decode cX35_get 37 = .ok (.invokevirtual 453, 3) := dc_182 (a := 1) (b := 197) (n := 453) (by decide +kernel)
theorem dX35_get_40 : decode cX35_get 40 = .ok (.ireturn, 1) := dc_172 (by decide +kernel)
def fX35_get (N : Nat) (this : Nat) (h : eH) : Option (Int32 × eH) :=
  (g_I 34 h this 46).bind fun x1 =>
  if x1 ≤ 0 then
    (g_I 34 h this 37).bind fun x4 =>
    if x4 ≤ 0 then
      (k_ok 34 h this).bind fun _ =>
      (fX35_read N this h).bind fun q8 =>
      some (q8.1, q8.2)
    else
      (g_I 34 h this 37).bind fun x9 =>
      (p_V 34 h this 37 (.int (x9 - (1 : Int32)))).bind fun h11 =>
      (g_A 34 h11 this 38).bind fun a13 =>
      (g_I 34 h11 this 37).bind fun x15 =>
      (r_I 100 h11 a13 x15).bind fun x17 =>
      some (x17, h11)
  else
    some ((-1 : Int32), h)
theorem pX35_get {w : eW} {d : Nat} (hd : 4 ≤ d) {N : Nat} {this : Nat} {h : eH} {q} (hf : fX35_get N this h = some q) : wm w d YX35_get [.ref this] h (e_is (e_rn c_I q)) := by
  obtain ⟨d, rfl⟩ : ∃ e, d = e + 1 := ⟨d - 1, by omega⟩
  show wp w (d + 1) YX35_get 0 [some (.ref this)] [] h _
  unfold fX35_get at hf
  refine w_aload_n dX35_get_0 rfl rfl ?_
  obtain ⟨x1, b2, hf⟩ := Option.bind_eq_some_iff.mp hf
  refine GX35_321 b2 dX35_get_1 rfl ?_
  refine w_if_le 9 dX35_get_4 (by decide) (fun c3 => ?_) (fun c3 => ?_)
  · replace hf := (if_pos (show x1 ≤ 0 from c3)).symm.trans hf
    refine w_aload_n dX35_get_9 rfl rfl ?_
    obtain ⟨x4, b5, hf⟩ := Option.bind_eq_some_iff.mp hf
    refine GX35_347 b5 dX35_get_10 rfl ?_
    refine w_if_le 36 dX35_get_13 (by decide) (fun c6 => ?_) (fun c6 => ?_)
    · replace hf := (if_pos (show x4 ≤ 0 from c6)).symm.trans hf
      refine w_aload_n dX35_get_36 rfl rfl ?_
      obtain ⟨_, b7, hf⟩ := Option.bind_eq_some_iff.mp hf
      refine x_cnI hf (e_stV (Yc := YX35_read) (ci := 34) (av := []) (st := []) dX35_get_37 q5085 mX35_read rfl (k_ok_some b7).1 (k_ok_some b7).2) mX35_read.2.2.1 mX35_read.2.2.2.2.1 (Nat.le_of_ble_eq_true rfl) (Nat.le_of_ble_eq_true rfl) (fun q hq => pX35_read (by omega) hq) (fun q8 hf => ?_)
      cases hf
      exact w_iret dX35_get_40 rfl rfl rfl
    · replace hf := (if_neg (show ¬ (x4 ≤ 0) from c6)).symm.trans hf
      refine w_aload_n dX35_get_16 rfl rfl ?_
      refine w_dup dX35_get_17 rfl ?_
      obtain ⟨x9, b10, hf⟩ := Option.bind_eq_some_iff.mp hf
      refine GX35_347 b10 dX35_get_18 rfl ?_
      refine w_iconst dX35_get_21 (v := 1) (by decide) ?_
      refine w_isub dX35_get_22 ?_
      obtain ⟨h11, b12, hf⟩ := Option.bind_eq_some_iff.mp hf
      refine SX35_347 b12 dX35_get_23 rfl ?_
      refine w_aload_n dX35_get_26 rfl rfl ?_
      obtain ⟨a13, b14, hf⟩ := Option.bind_eq_some_iff.mp hf
      refine GX35_105 b14 dX35_get_27 rfl ?_
      refine w_aload_n dX35_get_30 rfl rfl ?_
      obtain ⟨x15, b16, hf⟩ := Option.bind_eq_some_iff.mp hf
      refine GX35_347 b16 dX35_get_31 rfl ?_
      obtain ⟨x17, b18, hf⟩ := Option.bind_eq_some_iff.mp hf
      refine x_rI b18 dX35_get_34 ?_
      cases hf
      exact w_iret dX35_get_35 rfl rfl rfl
  · replace hf := (if_neg (show ¬ (x1 ≤ 0) from c3)).symm.trans hf
    refine w_iconst dX35_get_7 (v := -1) (by decide) ?_
    cases hf
    exact w_iret dX35_get_8 rfl rfl rfl
abbrev cX35_need : ByteArray := prog_37_method_26_code
def yX35_need : MethodName := ⟨RX35, "need", "()I"⟩
def YX35_need : eY := (yX35_need, cX35_need, 2, (Option.some FieldType.int), [])
theorem mX35_need : e_mv YX35_need RX35 0 := ⟨q5156, qs252, q5157, by decide, by decide +kernel, (e_sig (by decide +kernel))⟩
theorem dX35_need_0 : decode cX35_need 0 = .ok (.aload_n 0, 1) := dc_42 (by decide +kernel)
theorem dX35_need_1 : decode cX35_need 1 = .ok (.invokevirtual 456, 3) := dc_182 (a := 1) (b := 200) (n := 456) (by decide +kernel)
theorem dX35_need_4 : decode cX35_need 4 = .ok (.istore_n 1, 1) := dc_60 (by decide +kernel)
theorem dX35_need_5 : decode cX35_need 5 = .ok (.iload_n 1, 1) := dc_27 (by decide +kernel)
theorem dX35_need_6 : decode cX35_need 6 = .ok (.iconst (-1), 1) := dc_2 (by decide +kernel)
theorem dX35_need_7 : decode cX35_need 7 = .ok (.if_icmp .ne 9, 3) := dc_160 (a := 0) (b := 9) (v := 9) (by decide +kernel)
theorem dX35_need_10 : decode cX35_need 10 = .ok (.aload_n 0, 1) := dc_42 (by decide +kernel)
theorem dX35_need_11 : decode cX35_need 11 = .ok (.bipush 9, 2) := dc_16 (a := 9) (v := 9) (by decide +kernel)
theorem dX35_need_13 : decode cX35_need 13 = .ok (.invokevirtual 428, 3) := dc_182 (a := 1) (b := 172) (n := 428) (by decide +kernel)
theorem dX35_need_16 : decode cX35_need 16 = .ok (.iload_n 1, 1) := dc_27 (by decide +kernel)
theorem dX35_need_17 : decode cX35_need 17 = .ok (.ireturn, 1) := dc_172 (by decide +kernel)
def fX35_need_b16 (N : Nat) (l1 : Int32) (h : eH) : Option (Int32 × eH) :=
  some (l1, h)
theorem pX35_need_b16 {w : eW} {d : Nat} (hd : 5 ≤ d + 1) {N : Nat} {l1 : Int32} {h : eH} {q} (hf : fX35_need_b16 N l1 h = some q) : wp w (d + 1) YX35_need 16 [none, some (.int l1)] [] h (e_is (e_rn c_I q)) := by
  unfold fX35_need_b16 at hf
  refine w_iload_n dX35_need_16 rfl rfl ?_
  cases hf
  exact w_iret dX35_need_17 rfl rfl rfl
def fX35_need (N : Nat) (this : Nat) (h : eH) : Option (Int32 × eH) :=
  (k_ok 34 h this).bind fun _ =>
  (fX35_get N this h).bind fun q2 =>
  if ¬ q2.1 = (-1 : Int32) then
    fX35_need_b16 N q2.1 q2.2
  else
    (k_ok 34 q2.2 this).bind fun _ =>
    (fX35_fail this (9 : Int32) q2.2).bind fun q5 =>
    fX35_need_b16 N q2.1 q5.2
theorem pX35_need {w : eW} {d : Nat} (hd : 5 ≤ d) {N : Nat} {this : Nat} {h : eH} {q} (hf : fX35_need N this h = some q) : wm w d YX35_need [.ref this] h (e_is (e_rn c_I q)) := by
  obtain ⟨d, rfl⟩ : ∃ e, d = e + 1 := ⟨d - 1, by omega⟩
  show wp w (d + 1) YX35_need 0 [some (.ref this), none] [] h _
  unfold fX35_need at hf
  refine w_aload_n dX35_need_0 rfl rfl ?_
  obtain ⟨_, b1, hf⟩ := Option.bind_eq_some_iff.mp hf
  refine x_cnI hf (e_stV (Yc := YX35_get) (ci := 34) (av := []) (st := []) dX35_need_1 q5081 mX35_get rfl (k_ok_some b1).1 (k_ok_some b1).2) mX35_get.2.2.1 mX35_get.2.2.2.2.1 (Nat.le_of_ble_eq_true rfl) (Nat.le_of_ble_eq_true rfl) (fun q hq => pX35_get (by omega) hq) (fun q2 hf => ?_)
  refine w_istore_n dX35_need_4 rfl (by decide) (ls' := [some (.ref this), some (.int q2.1)]) rfl ?_
  refine w_iload_n dX35_need_5 rfl rfl ?_
  refine w_iconst dX35_need_6 (v := -1) (by decide) ?_
  refine w_icmp_ne 16 dX35_need_7 (by decide) (fun c3 => ?_) (fun c3 => ?_)
  · replace hf := (if_pos (show ¬ q2.1 = (-1 : Int32) from c3)).symm.trans hf
    exact (pX35_need_b16 hd hf).to ⟨rfl, trivial⟩
  · replace hf := (if_neg (show ¬ (¬ q2.1 = (-1 : Int32)) from (fun z => z c3))).symm.trans hf
    refine w_aload_n dX35_need_10 rfl rfl ?_
    refine w_bipush dX35_need_11 (v := 9) (by decide) ?_
    obtain ⟨_, b4, hf⟩ := Option.bind_eq_some_iff.mp hf
    refine x_cnV hf (e_stV (Yc := YX35_fail) (ci := 34) (av := [.int (9 : Int32)]) (st := []) dX35_need_13 q5109 mX35_fail rfl (k_ok_some b4).1 (k_ok_some b4).2) mX35_fail.2.2.1 mX35_fail.2.2.2.2.1 (Nat.le_of_ble_eq_true rfl) (Nat.le_of_ble_eq_true rfl) (fun q hq => pX35_fail (by omega) hq) (fun q5 hf => ?_)
    exact (pX35_need_b16 hd hf).to ⟨rfl, trivial⟩
abbrev cX35_isMarked : ByteArray := prog_37_method_31_code
def yX35_isMarked : MethodName := ⟨RX35, "isMarked", "(I)Z"⟩
def YX35_isMarked : eY := (yX35_isMarked, cX35_isMarked, 1, (Option.some FieldType.boolean), [])
theorem mX35_isMarked : e_ms YX35_isMarked 1 := ⟨q5124, q466, q5125, by decide, by decide +kernel, (e_sig (by decide +kernel))⟩
theorem dX35_isMarked_0 : decode cX35_isMarked 0 = .ok (.iload_n 0, 1) := dc_26 (by decide +kernel)
theorem dX35_isMarked_1 : decode cX35_isMarked 1 = .ok (.ldc_w 463, 3) := dc_19 (a := 1) (b := 207) (n := 463) (by decide +kernel)
theorem dX35_isMarked_4 : decode cX35_isMarked 4 = .ok (.if_icmp .lt 7, 3) := dc_161 (a := 0) (b := 7) (v := 7) (by decide +kernel)
theorem dX35_isMarked_7 : decode cX35_isMarked 7 = .ok (.iconst 1, 1) := dc_4 (by decide +kernel)
theorem dX35_isMarked_8 : decode cX35_isMarked 8 = .ok (.goto 4, 3) := dc_167 (a := 0) (b := 4) (v := 4) (by decide +kernel)
theorem dX35_isMarked_11 : decode cX35_isMarked 11 = .ok (.iconst 0, 1) := dc_3 (by decide +kernel)
theorem dX35_isMarked_12 : decode cX35_isMarked 12 = .ok (.ireturn, 1) := dc_172 (by decide +kernel)
def fX35_isMarked_b12 (s0 : Int32) (h : eH) : Option (Int32 × eH) :=
  z_r s0 (s0, h)
theorem pX35_isMarked_b12 {w : eW} {d : Nat} (hd : 0 ≤ d) {s0 : Int32} {h : eH} {q} (hf : fX35_isMarked_b12 s0 h = some q) : wp w d YX35_isMarked 12 [none] [.int s0] h (e_is (e_rn c_I q)) := by
  unfold fX35_isMarked_b12 at hf
  obtain ⟨b1, rfl⟩ := z_r_some hf
  exact w_iret dX35_isMarked_12 rfl b1 rfl
def fX35_isMarked (p0 : Int32) (h : eH) : Option (Int32 × eH) :=
  if p0 < (524288 : Int32) then
    fX35_isMarked_b12 (0 : Int32) h
  else
    fX35_isMarked_b12 (1 : Int32) h
theorem pX35_isMarked {w : eW} {d : Nat} (hd : 0 ≤ d) {p0 : Int32} {h : eH} {q} (hf : fX35_isMarked p0 h = some q) : wm w d YX35_isMarked [.int p0] h (e_is (e_rn c_I q)) := by
  show wp w d YX35_isMarked 0 [some (.int p0)] [] h _
  unfold fX35_isMarked at hf
  refine w_iload_n dX35_isMarked_0 rfl rfl ?_
  refine w_ldc_w dX35_isMarked_1 q5126 ?_
  refine w_icmp_lt 11 dX35_isMarked_4 (by decide) (fun c1 => ?_) (fun c1 => ?_)
  · replace hf := (if_pos (show p0 < (524288 : Int32) from c1)).symm.trans hf
    refine w_iconst dX35_isMarked_11 (v := 0) (by decide) ?_
    exact (pX35_isMarked_b12 hd hf).to trivial
  · replace hf := (if_neg (show ¬ (p0 < (524288 : Int32)) from c1)).symm.trans hf
    refine w_iconst dX35_isMarked_7 (v := 1) (by decide) ?_
    refine w_goto 12 dX35_isMarked_8 (by decide) ?_
    exact (pX35_isMarked_b12 hd hf).to trivial
abbrev cX35_idOf : ByteArray := prog_37_method_33_code
def yX35_idOf : MethodName := ⟨RX35, "idOf", "(I)I"⟩
def YX35_idOf : eY := (yX35_idOf, cX35_idOf, 3, (Option.some FieldType.int), [])
theorem mX35_idOf : e_mv YX35_idOf RX35 1 := ⟨q5137, qs248, q5138, by decide, by decide +kernel, (e_sig (by decide +kernel))⟩
theorem dX35_idOf_0 : decode cX35_idOf 0 = .ok (.iload_n 1, 1) := dc_27 (by decide +kernel)
theorem dX35_idOf_1 : decode cX35_idOf 1 = .ok (.invokestatic 464, 3) := dc_184 (a := 1) (b := 208) (n := 464) (by decide +kernel)
theorem dX35_idOf_4 : decode cX35_idOf 4 = .ok (.istore_n 2, 1) := dc_61 (by decide +kernel)
theorem dX35_idOf_5 : decode cX35_idOf 5 = .ok (.iload_n 2, 1) := dc_28 (by decide +kernel)
theorem dX35_idOf_6 : decode cX35_idOf 6 = .ok (.ldc_w 452, 3) := dc_19 (a := 1) (b := 196) (n := 452) (by decide +kernel)
theorem dX35_idOf_9 : decode cX35_idOf 9 = .ok (.if_icmp .lt 15, 3) := dc_161 (a := 0) (b := 15) (v := 15) (by decide +kernel)
theorem dX35_idOf_12 : decode cX35_idOf 12 = .ok (.sipush 1200, 3) := dc_17 (a := 4) (b := 176) (v := 1200) (by decide +kernel)
theorem dX35_idOf_15 : decode cX35_idOf 15 = .ok (.iload_n 2, 1) := dc_28 (by decide +kernel)
theorem dX35_idOf_16 : decode cX35_idOf 16 = .ok (.iadd, 1) := dc_96 (by decide +kernel)
theorem dX35_idOf_17 : decode cX35_idOf 17 = .ok (.ldc_w 452, 3) := dc_19 (a := 1) (b := 196) (n := 452) (by decide +kernel)
theorem dX35_idOf_20 : decode cX35_idOf 20 = .ok (.isub, 1) := dc_100 (by decide +kernel)
theorem dX35_idOf_21 : decode cX35_idOf 21 = .ok (.goto 7, 3) := dc_167 (a := 0) (b := 7) (v := 7) (by decide +kernel)
theorem dX35_idOf_24 : decode cX35_idOf 24 = .ok (.iload_n 2, 1) := dc_28 (by decide +kernel)
theorem dX35_idOf_25 : decode cX35_idOf 25 = .ok (.ldc 7, 2) := dc_18 (a := 7) (by decide +kernel)
theorem dX35_idOf_27 : decode cX35_idOf 27 = .ok (.isub, 1) := dc_100 (by decide +kernel)
theorem dX35_idOf_28 : decode cX35_idOf 28 = .ok (.ireturn, 1) := dc_172 (by decide +kernel)
def fX35_idOf_b28 (s0 : Int32) (h : eH) : Option (Int32 × eH) :=
  some (s0, h)
theorem pX35_idOf_b28 {w : eW} {d : Nat} (hd : 1 ≤ d + 1) {s0 : Int32} {h : eH} {q} (hf : fX35_idOf_b28 s0 h = some q) : wp w (d + 1) YX35_idOf 28 [none, none, none] [.int s0] h (e_is (e_rn c_I q)) := by
  unfold fX35_idOf_b28 at hf
  cases hf
  exact w_iret dX35_idOf_28 rfl rfl rfl
def fX35_idOf (this : Nat) (p0 : Int32) (h : eH) : Option (Int32 × eH) :=
  (fX35_bare p0 h).bind fun q1 =>
  if q1.1 < (131072 : Int32) then
    fX35_idOf_b28 (q1.1 - (65536 : Int32)) q1.2
  else
    fX35_idOf_b28 (((1200 : Int32) + q1.1) - (131072 : Int32)) q1.2
theorem pX35_idOf {w : eW} {d : Nat} (hd : 1 ≤ d) {this : Nat} {p0 : Int32} {h : eH} {q} (hf : fX35_idOf this p0 h = some q) : wm w d YX35_idOf [.ref this, .int p0] h (e_is (e_rn c_I q)) := by
  obtain ⟨d, rfl⟩ : ∃ e, d = e + 1 := ⟨d - 1, by omega⟩
  show wp w (d + 1) YX35_idOf 0 [some (.ref this), some (.int p0), none] [] h _
  unfold fX35_idOf at hf
  refine w_iload_n dX35_idOf_0 rfl rfl ?_
  refine x_cnI hf (e_stS (Yc := YX35_bare) (av := [.int p0]) (st := []) dX35_idOf_1 q5139 mX35_bare) mX35_bare.2.2.1 mX35_bare.2.2.2.2.1 (Nat.le_of_ble_eq_true rfl) (Nat.le_of_ble_eq_true rfl) (fun q hq => pX35_bare (by omega) hq) (fun q1 hf => ?_)
  refine w_istore_n dX35_idOf_4 rfl (by decide) (ls' := [some (.ref this), some (.int p0), some (.int q1.1)]) rfl ?_
  refine w_iload_n dX35_idOf_5 rfl rfl ?_
  refine w_ldc_w dX35_idOf_6 q5118 ?_
  refine w_icmp_lt 24 dX35_idOf_9 (by decide) (fun c2 => ?_) (fun c2 => ?_)
  · replace hf := (if_pos (show q1.1 < (131072 : Int32) from c2)).symm.trans hf
    refine w_iload_n dX35_idOf_24 rfl rfl ?_
    refine w_ldc dX35_idOf_25 q4119 ?_
    refine w_isub dX35_idOf_27 ?_
    exact (pX35_idOf_b28 hd hf).to trivial
  · replace hf := (if_neg (show ¬ (q1.1 < (131072 : Int32)) from c2)).symm.trans hf
    refine w_sipush dX35_idOf_12 (v := 1200) (by decide) ?_
    refine w_iload_n dX35_idOf_15 rfl rfl ?_
    refine w_iadd dX35_idOf_16 ?_
    refine w_ldc_w dX35_idOf_17 q5118 ?_
    refine w_isub dX35_idOf_20 ?_
    refine w_goto 28 dX35_idOf_21 (by decide) ?_
    exact (pX35_idOf_b28 hd hf).to trivial
abbrev cX35_meaning : ByteArray := prog_37_method_34_code
def yX35_meaning : MethodName := ⟨RX35, "meaning", "(I)I"⟩
def YX35_meaning : eY := (yX35_meaning, cX35_meaning, 2, (Option.some FieldType.int), [])
theorem mX35_meaning : e_mv YX35_meaning RX35 1 := ⟨q5132, qs247, q5133, by decide, by decide +kernel, (e_sig (by decide +kernel))⟩
theorem dX35_meaning_0 : decode cX35_meaning 0 = .ok (.iload_n 1, 1) := dc_27 (by decide +kernel)
theorem dX35_meaning_1 : decode cX35_meaning 1 = .ok (.invokestatic 467, 3) := dc_184 (a := 1) (b := 211) (n := 467) (by decide +kernel)
theorem dX35_meaning_4 : decode cX35_meaning 4 = .ok (.ifCond .eq 7, 3) := dc_153 (a := 0) (b := 7) (v := 7) (by decide +kernel)
theorem dX35_meaning_7 : decode cX35_meaning 7 = .ok (.sipush 1022, 3) := dc_17 (a := 3) (b := 254) (v := 1022) (by decide +kernel)
theorem dX35_meaning_10 : decode cX35_meaning 10 = .ok (.ireturn, 1) := dc_172 (by decide +kernel)
theorem dX35_meaning_11 : decode cX35_meaning 11 = .ok (.iload_n 1, 1) := dc_27 (by decide +kernel)
theorem dX35_meaning_12 : decode cX35_meaning 12 = .ok (.invokestatic 459, 3) := dc_184 (a := 1) (b := 203) (n := 459) (by decide +kernel)
theorem dX35_meaning_15 : decode cX35_meaning 15 = .ok (.ifCond .eq 11, 3) := dc_153 (a := 0) (b := 11) (v := 11) (by decide +kernel)
theorem dX35_meaning_18 : decode cX35_meaning 18 = .ok (.ldc_w 470, 3) := dc_19 (a := 1) (b := 214) (n := 470) (by decide +kernel)
theorem dX35_meaning_21 : decode cX35_meaning 21 = .ok (.iload_n 1, 1) := dc_27 (by decide +kernel)
theorem dX35_meaning_22 : decode cX35_meaning 22 = .ok (.iadd, 1) := dc_96 (by decide +kernel)
theorem dX35_meaning_23 : decode cX35_meaning 23 = .ok (.goto 12, 3) := dc_167 (a := 0) (b := 12) (v := 12) (by decide +kernel)
theorem dX35_meaning_26 : decode cX35_meaning 26 = .ok (.aload_n 0, 1) := dc_42 (by decide +kernel)
theorem dX35_meaning_27 : decode cX35_meaning 27 = .ok (.aload_n 0, 1) := dc_42 (by decide +kernel)
theorem dX35_meaning_28 : decode cX35_meaning 28 = .ok (.iload_n 1, 1) := dc_27 (by decide +kernel)
theorem dX35_meaning_29 : decode cX35_meaning 29 = .ok (.invokevirtual 471, 3) := dc_182 (a := 1) (b := 215) (n := 471) (by decide +kernel)
theorem dX35_meaning_32 : decode cX35_meaning 32 = .ok (.invokevirtual 431, 3) := dc_182 (a := 1) (b := 175) (n := 431) (by decide +kernel)
theorem dX35_meaning_35 : decode cX35_meaning 35 = .ok (.ireturn, 1) := dc_172 (by decide +kernel)
def fX35_meaning_b35 (s0 : Int32) (h : eH) : Option (Int32 × eH) :=
  some (s0, h)
theorem pX35_meaning_b35 {w : eW} {d : Nat} (hd : 2 ≤ d + 1) {s0 : Int32} {h : eH} {q} (hf : fX35_meaning_b35 s0 h = some q) : wp w (d + 1) YX35_meaning 35 [none, none] [.int s0] h (e_is (e_rn c_I q)) := by
  unfold fX35_meaning_b35 at hf
  cases hf
  exact w_iret dX35_meaning_35 rfl rfl rfl
def fX35_meaning (this : Nat) (p0 : Int32) (h : eH) : Option (Int32 × eH) :=
  (fX35_isMarked p0 h).bind fun q1 =>
  if q1.1 = 0 then
    (fX35_isCharacter p0 q1.2).bind fun q3 =>
    if q3.1 = 0 then
      (k_ok 34 q3.2 this).bind fun _ =>
      (fX35_idOf this p0 q3.2).bind fun q6 =>
      (k_ok 34 q6.2 this).bind fun _ =>
      (fX35_now this q6.1 q6.2).bind fun q8 =>
      fX35_meaning_b35 q8.1 q8.2
    else
      fX35_meaning_b35 ((2000000 : Int32) + p0) q3.2
  else
    some ((1022 : Int32), q1.2)
theorem pX35_meaning {w : eW} {d : Nat} (hd : 2 ≤ d) {this : Nat} {p0 : Int32} {h : eH} {q} (hf : fX35_meaning this p0 h = some q) : wm w d YX35_meaning [.ref this, .int p0] h (e_is (e_rn c_I q)) := by
  obtain ⟨d, rfl⟩ : ∃ e, d = e + 1 := ⟨d - 1, by omega⟩
  show wp w (d + 1) YX35_meaning 0 [some (.ref this), some (.int p0)] [] h _
  unfold fX35_meaning at hf
  refine w_iload_n dX35_meaning_0 rfl rfl ?_
  refine x_cnI hf (e_stS (Yc := YX35_isMarked) (av := [.int p0]) (st := []) dX35_meaning_1 q5123 mX35_isMarked) mX35_isMarked.2.2.1 mX35_isMarked.2.2.2.2.1 (Nat.le_of_ble_eq_true rfl) (Nat.le_of_ble_eq_true rfl) (fun q hq => pX35_isMarked (by omega) hq) (fun q1 hf => ?_)
  refine w_if_eq 11 dX35_meaning_4 (by decide) (fun c2 => ?_) (fun c2 => ?_)
  · replace hf := (if_pos (show q1.1 = 0 from c2)).symm.trans hf
    refine w_iload_n dX35_meaning_11 rfl rfl ?_
    refine x_cnI hf (e_stS (Yc := YX35_isCharacter) (av := [.int p0]) (st := []) dX35_meaning_12 q5127 mX35_isCharacter) mX35_isCharacter.2.2.1 mX35_isCharacter.2.2.2.2.1 (Nat.le_of_ble_eq_true rfl) (Nat.le_of_ble_eq_true rfl) (fun q hq => pX35_isCharacter (by omega) hq) (fun q3 hf => ?_)
    refine w_if_eq 26 dX35_meaning_15 (by decide) (fun c4 => ?_) (fun c4 => ?_)
    · replace hf := (if_pos (show q3.1 = 0 from c4)).symm.trans hf
      refine w_aload_n dX35_meaning_26 rfl rfl ?_
      refine w_aload_n dX35_meaning_27 rfl rfl ?_
      refine w_iload_n dX35_meaning_28 rfl rfl ?_
      obtain ⟨_, b5, hf⟩ := Option.bind_eq_some_iff.mp hf
      refine x_cnI hf (e_stV (Yc := YX35_idOf) (ci := 34) (av := [.int p0]) (st := [.ref this]) dX35_meaning_29 q5135 mX35_idOf rfl (k_ok_some b5).1 (k_ok_some b5).2) mX35_idOf.2.2.1 mX35_idOf.2.2.2.2.1 (Nat.le_of_ble_eq_true rfl) (Nat.le_of_ble_eq_true rfl) (fun q hq => pX35_idOf (by omega) hq) (fun q6 hf => ?_)
      obtain ⟨_, b7, hf⟩ := Option.bind_eq_some_iff.mp hf
      refine x_cnI hf (e_stV (Yc := YX35_now) (ci := 34) (av := [.int q6.1]) (st := []) dX35_meaning_32 q5097 mX35_now rfl (k_ok_some b7).1 (k_ok_some b7).2) mX35_now.2.2.1 mX35_now.2.2.2.2.1 (Nat.le_of_ble_eq_true rfl) (Nat.le_of_ble_eq_true rfl) (fun q hq => pX35_now (by omega) hq) (fun q8 hf => ?_)
      exact (pX35_meaning_b35 hd hf).to trivial
    · replace hf := (if_neg (show ¬ (q3.1 = 0) from c4)).symm.trans hf
      refine w_ldc_w dX35_meaning_18 q5134 ?_
      refine w_iload_n dX35_meaning_21 rfl rfl ?_
      refine w_iadd dX35_meaning_22 ?_
      refine w_goto 35 dX35_meaning_23 (by decide) ?_
      exact (pX35_meaning_b35 hd hf).to trivial
  · replace hf := (if_neg (show ¬ (q1.1 = 0) from c2)).symm.trans hf
    refine w_sipush dX35_meaning_7 (v := 1022) (by decide) ?_
    cases hf
    exact w_iret dX35_meaning_10 rfl rfl rfl
abbrev cX35_isCondition : ByteArray := prog_37_method_62_code
def yX35_isCondition : MethodName := ⟨RX35, "isCondition", "(I)Z"⟩
def YX35_isCondition : eY := (yX35_isCondition, cX35_isCondition, 3, (Option.some FieldType.boolean), [])
theorem mX35_isCondition : e_mv YX35_isCondition RX35 1 := ⟨q5323, qs287, q5324, by decide, by decide +kernel, (e_sig (by decide +kernel))⟩
theorem dX35_isCondition_0 : decode cX35_isCondition 0 = .ok (.aload_n 0, 1) := dc_42 (by decide +kernel)
theorem dX35_isCondition_1 : decode cX35_isCondition 1 = .ok (.iload_n 1, 1) := dc_27 (by decide +kernel)
theorem dX35_isCondition_2 : decode cX35_isCondition 2 = .ok (.invokevirtual 474, 3) := dc_182 (a := 1) (b := 218) (n := 474) (by decide +kernel)
theorem dX35_isCondition_5 : decode cX35_isCondition 5 = .ok (.istore_n 2, 1) := dc_61 (by decide +kernel)
theorem dX35_isCondition_6 : decode cX35_isCondition 6 = .ok (.iload_n 2, 1) := dc_28 (by decide +kernel)
theorem dX35_isCondition_7 : decode cX35_isCondition 7 = .ok (.sipush 1007, 3) := dc_17 (a := 3) (b := 239) (v := 1007) (by decide +kernel)
theorem dX35_isCondition_10 : decode cX35_isCondition 10 = .ok (.if_icmp .lt 14, 3) := dc_161 (a := 0) (b := 14) (v := 14) (by decide +kernel)
theorem dX35_isCondition_13 : decode cX35_isCondition 13 = .ok (.iload_n 2, 1) := dc_28 (by decide +kernel)
theorem dX35_isCondition_14 : decode cX35_isCondition 14 = .ok (.sipush 1018, 3) := dc_17 (a := 3) (b := 250) (v := 1018) (by decide +kernel)
theorem dX35_isCondition_17 : decode cX35_isCondition 17 = .ok (.if_icmp .gt 7, 3) := dc_163 (a := 0) (b := 7) (v := 7) (by decide +kernel)
theorem dX35_isCondition_20 : decode cX35_isCondition 20 = .ok (.iconst 1, 1) := dc_4 (by decide +kernel)
theorem dX35_isCondition_21 : decode cX35_isCondition 21 = .ok (.goto 4, 3) := dc_167 (a := 0) (b := 4) (v := 4) (by decide +kernel)
theorem dX35_isCondition_24 : decode cX35_isCondition 24 = .ok (.iconst 0, 1) := dc_3 (by decide +kernel)
theorem dX35_isCondition_25 : decode cX35_isCondition 25 = .ok (.ireturn, 1) := dc_172 (by decide +kernel)
def fX35_isCondition_b25 (s0 : Int32) (h : eH) : Option (Int32 × eH) :=
  z_r s0 (s0, h)
theorem pX35_isCondition_b25 {w : eW} {d : Nat} (hd : 3 ≤ d + 1) {s0 : Int32} {h : eH} {q} (hf : fX35_isCondition_b25 s0 h = some q) : wp w (d + 1) YX35_isCondition 25 [none, none, none] [.int s0] h (e_is (e_rn c_I q)) := by
  unfold fX35_isCondition_b25 at hf
  obtain ⟨b1, rfl⟩ := z_r_some hf
  exact w_iret dX35_isCondition_25 rfl b1 rfl
def fX35_isCondition_b24  (h : eH) : Option (Int32 × eH) :=
  fX35_isCondition_b25 (0 : Int32) h
theorem pX35_isCondition_b24 {w : eW} {d : Nat} (hd : 3 ≤ d + 1)  {h : eH} {q} (hf : fX35_isCondition_b24  h = some q) : wp w (d + 1) YX35_isCondition 24 [none, none, none] [] h (e_is (e_rn c_I q)) := by
  unfold fX35_isCondition_b24 at hf
  refine w_iconst dX35_isCondition_24 (v := 0) (by decide) ?_
  exact (pX35_isCondition_b25 hd hf).to trivial
def fX35_isCondition (this : Nat) (p0 : Int32) (h : eH) : Option (Int32 × eH) :=
  (k_ok 34 h this).bind fun _ =>
  (fX35_meaning this p0 h).bind fun q2 =>
  if q2.1 < (1007 : Int32) then
    fX35_isCondition_b24 q2.2
  else
    if (1018 : Int32) < q2.1 then
      fX35_isCondition_b24 q2.2
    else
      fX35_isCondition_b25 (1 : Int32) q2.2
theorem pX35_isCondition {w : eW} {d : Nat} (hd : 3 ≤ d) {this : Nat} {p0 : Int32} {h : eH} {q} (hf : fX35_isCondition this p0 h = some q) : wm w d YX35_isCondition [.ref this, .int p0] h (e_is (e_rn c_I q)) := by
  obtain ⟨d, rfl⟩ : ∃ e, d = e + 1 := ⟨d - 1, by omega⟩
  show wp w (d + 1) YX35_isCondition 0 [some (.ref this), some (.int p0), none] [] h _
  unfold fX35_isCondition at hf
  refine w_aload_n dX35_isCondition_0 rfl rfl ?_
  refine w_iload_n dX35_isCondition_1 rfl rfl ?_
  obtain ⟨_, b1, hf⟩ := Option.bind_eq_some_iff.mp hf
  refine x_cnI hf (e_stV (Yc := YX35_meaning) (ci := 34) (av := [.int p0]) (st := []) dX35_isCondition_2 q5130 mX35_meaning rfl (k_ok_some b1).1 (k_ok_some b1).2) mX35_meaning.2.2.1 mX35_meaning.2.2.2.2.1 (Nat.le_of_ble_eq_true rfl) (Nat.le_of_ble_eq_true rfl) (fun q hq => pX35_meaning (by omega) hq) (fun q2 hf => ?_)
  refine w_istore_n dX35_isCondition_5 rfl (by decide) (ls' := [some (.ref this), some (.int p0), some (.int q2.1)]) rfl ?_
  refine w_iload_n dX35_isCondition_6 rfl rfl ?_
  refine w_sipush dX35_isCondition_7 (v := 1007) (by decide) ?_
  refine w_icmp_lt 24 dX35_isCondition_10 (by decide) (fun c3 => ?_) (fun c3 => ?_)
  · replace hf := (if_pos (show q2.1 < (1007 : Int32) from c3)).symm.trans hf
    exact (pX35_isCondition_b24 hd hf).to trivial
  · replace hf := (if_neg (show ¬ (q2.1 < (1007 : Int32)) from c3)).symm.trans hf
    refine w_iload_n dX35_isCondition_13 rfl rfl ?_
    refine w_sipush dX35_isCondition_14 (v := 1018) (by decide) ?_
    refine w_icmp_gt 24 dX35_isCondition_17 (by decide) (fun c4 => ?_) (fun c4 => ?_)
    · replace hf := (if_pos (show (1018 : Int32) < q2.1 from c4)).symm.trans hf
      exact (pX35_isCondition_b24 hd hf).to trivial
    · replace hf := (if_neg (show ¬ ((1018 : Int32) < q2.1) from c4)).symm.trans hf
      refine w_iconst dX35_isCondition_20 (v := 1) (by decide) ?_
      refine w_goto 25 dX35_isCondition_21 (by decide) ?_
      exact (pX35_isCondition_b25 hd hf).to trivial
abbrev cX35_means : ByteArray := prog_37_method_35_code
def yX35_means : MethodName := ⟨RX35, "means", "(II)Z"⟩
def YX35_means : eY := (yX35_means, cX35_means, 3, (Option.some FieldType.boolean), [])
theorem mX35_means : e_mv YX35_means RX35 2 := ⟨q5199, qs262, q5200, by decide, by decide +kernel, (e_sig (by decide +kernel))⟩
theorem dX35_means_0 : decode cX35_means 0 = .ok (.iload_n 1, 1) := dc_27 (by decide +kernel)
theorem dX35_means_1 : decode cX35_means 1 = .ok (.iconst (-1), 1) := dc_2 (by decide +kernel)
theorem dX35_means_2 : decode cX35_means 2 = .ok (.if_icmp .eq 20, 3) := dc_159 (a := 0) (b := 20) (v := 20) (by decide +kernel)
theorem dX35_means_5 : decode cX35_means 5 = .ok (.aload_n 0, 1) := dc_42 (by decide +kernel)
theorem dX35_means_6 : decode cX35_means 6 = .ok (.iload_n 1, 1) := dc_27 (by decide +kernel)
theorem dX35_means_7 : decode cX35_means 7 = .ok (.invokevirtual 474, 3) := dc_182 (a := 1) (b := 218) (n := 474) (by decide +kernel)
theorem dX35_means_10 : decode cX35_means 10 = .ok (.sipush 1000, 3) := dc_17 (a := 3) (b := 232) (v := 1000) (by decide +kernel)
theorem dX35_means_13 : decode cX35_means 13 = .ok (.iload_n 2, 1) := dc_28 (by decide +kernel)
theorem dX35_means_14 : decode cX35_means 14 = .ok (.iadd, 1) := dc_96 (by decide +kernel)
theorem dX35_means_15 : decode cX35_means 15 = .ok (.if_icmp .ne 7, 3) := dc_160 (a := 0) (b := 7) (v := 7) (by decide +kernel)
theorem dX35_means_18 : decode cX35_means 18 = .ok (.iconst 1, 1) := dc_4 (by decide +kernel)
theorem dX35_means_19 : decode cX35_means 19 = .ok (.goto 4, 3) := dc_167 (a := 0) (b := 4) (v := 4) (by decide +kernel)
theorem dX35_means_22 : decode cX35_means 22 = .ok (.iconst 0, 1) := dc_3 (by decide +kernel)
theorem dX35_means_23 : decode cX35_means 23 = .ok (.ireturn, 1) := dc_172 (by decide +kernel)
def fX35_means_b23 (s0 : Int32) (h : eH) : Option (Int32 × eH) :=
  z_r s0 (s0, h)
theorem pX35_means_b23 {w : eW} {d : Nat} (hd : 3 ≤ d + 1) {s0 : Int32} {h : eH} {q} (hf : fX35_means_b23 s0 h = some q) : wp w (d + 1) YX35_means 23 [none, none, none] [.int s0] h (e_is (e_rn c_I q)) := by
  unfold fX35_means_b23 at hf
  obtain ⟨b1, rfl⟩ := z_r_some hf
  exact w_iret dX35_means_23 rfl b1 rfl
def fX35_means_b22  (h : eH) : Option (Int32 × eH) :=
  fX35_means_b23 (0 : Int32) h
theorem pX35_means_b22 {w : eW} {d : Nat} (hd : 3 ≤ d + 1)  {h : eH} {q} (hf : fX35_means_b22  h = some q) : wp w (d + 1) YX35_means 22 [none, none, none] [] h (e_is (e_rn c_I q)) := by
  unfold fX35_means_b22 at hf
  refine w_iconst dX35_means_22 (v := 0) (by decide) ?_
  exact (pX35_means_b23 hd hf).to trivial
def fX35_means (this : Nat) (p0 : Int32) (p1 : Int32) (h : eH) : Option (Int32 × eH) :=
  if p0 = (-1 : Int32) then
    fX35_means_b22 h
  else
    (k_ok 34 h this).bind fun _ =>
    (fX35_meaning this p0 h).bind fun q3 =>
    if ¬ q3.1 = ((1000 : Int32) + p1) then
      fX35_means_b22 q3.2
    else
      fX35_means_b23 (1 : Int32) q3.2
theorem pX35_means {w : eW} {d : Nat} (hd : 3 ≤ d) {this : Nat} {p0 : Int32} {p1 : Int32} {h : eH} {q} (hf : fX35_means this p0 p1 h = some q) : wm w d YX35_means [.ref this, .int p0, .int p1] h (e_is (e_rn c_I q)) := by
  obtain ⟨d, rfl⟩ : ∃ e, d = e + 1 := ⟨d - 1, by omega⟩
  show wp w (d + 1) YX35_means 0 [some (.ref this), some (.int p0), some (.int p1)] [] h _
  unfold fX35_means at hf
  refine w_iload_n dX35_means_0 rfl rfl ?_
  refine w_iconst dX35_means_1 (v := -1) (by decide) ?_
  refine w_icmp_eq 22 dX35_means_2 (by decide) (fun c1 => ?_) (fun c1 => ?_)
  · replace hf := (if_pos (show p0 = (-1 : Int32) from c1)).symm.trans hf
    exact (pX35_means_b22 hd hf).to trivial
  · replace hf := (if_neg (show ¬ (p0 = (-1 : Int32)) from c1)).symm.trans hf
    refine w_aload_n dX35_means_5 rfl rfl ?_
    refine w_iload_n dX35_means_6 rfl rfl ?_
    obtain ⟨_, b2, hf⟩ := Option.bind_eq_some_iff.mp hf
    refine x_cnI hf (e_stV (Yc := YX35_meaning) (ci := 34) (av := [.int p0]) (st := []) dX35_means_7 q5130 mX35_meaning rfl (k_ok_some b2).1 (k_ok_some b2).2) mX35_meaning.2.2.1 mX35_meaning.2.2.2.2.1 (Nat.le_of_ble_eq_true rfl) (Nat.le_of_ble_eq_true rfl) (fun q hq => pX35_meaning (by omega) hq) (fun q3 hf => ?_)
    refine w_sipush dX35_means_10 (v := 1000) (by decide) ?_
    refine w_iload_n dX35_means_13 rfl rfl ?_
    refine w_iadd dX35_means_14 ?_
    refine w_icmp_ne 22 dX35_means_15 (by decide) (fun c4 => ?_) (fun c4 => ?_)
    · replace hf := (if_pos (show ¬ q3.1 = ((1000 : Int32) + p1) from c4)).symm.trans hf
      exact (pX35_means_b22 hd hf).to trivial
    · replace hf := (if_neg (show ¬ (¬ q3.1 = ((1000 : Int32) + p1)) from (fun z => z c4))).symm.trans hf
      refine w_iconst dX35_means_18 (v := 1) (by decide) ?_
      refine w_goto 23 dX35_means_19 (by decide) ?_
      exact (pX35_means_b23 hd hf).to trivial
abbrev cX35_branch : ByteArray := prog_37_method_64_code
def yX35_branch : MethodName := ⟨RX35, "branch", "(II)V"⟩
def YX35_branch : eY := (yX35_branch, cX35_branch, 6, none, [])
theorem mX35_branch : e_mv YX35_branch RX35 2 := ⟨q5318, qs286, q5319, by decide, by decide +kernel, (e_sig (by decide +kernel))⟩
theorem dX35_branch_0 : decode cX35_branch 0 = .ok (.aload_n 0, 1) := dc_42 (by decide +kernel)
theorem dX35_branch_1 : decode cX35_branch 1 = .ok (.getfield 350, 3) := dc_180 (a := 1) (b := 94) (n := 350) (by decide +kernel)
theorem dX35_branch_4 : decode cX35_branch 4 = .ok (.ifCond .le 30, 3) := dc_158 (a := 0) (b := 30) (v := 30) (by decide +kernel)
theorem dX35_branch_7 : decode cX35_branch 7 = .ok (.aload_n 0, 1) := dc_42 (by decide +kernel)
theorem dX35_branch_8 : decode cX35_branch 8 = .ok (.getfield 118, 3) := dc_180 (a := 0) (b := 118) (n := 118) (by decide +kernel)
theorem dX35_branch_11 : decode cX35_branch 11 = .ok (.aload_n 0, 1) := dc_42 (by decide +kernel)
theorem dX35_branch_12 : decode cX35_branch 12 = .ok (.getfield 350, 3) := dc_180 (a := 1) (b := 94) (n := 350) (by decide +kernel)
theorem dX35_branch_15 : decode cX35_branch 15 = .ok (.iconst 1, 1) := dc_4 (by decide +kernel)
theorem dX35_branch_16 : decode cX35_branch 16 = .ok (.isub, 1) := dc_100 (by decide +kernel)
theorem dX35_branch_17 : decode cX35_branch 17 = .ok (.iaload, 1) := dc_46 (by decide +kernel)
theorem dX35_branch_18 : decode cX35_branch 18 = .ok (.ifCond .ne 16, 3) := dc_154 (a := 0) (b := 16) (v := 16) (by decide +kernel)
theorem dX35_branch_21 : decode cX35_branch 21 = .ok (.aload_n 0, 1) := dc_42 (by decide +kernel)
theorem dX35_branch_22 : decode cX35_branch 22 = .ok (.iload_n 1, 1) := dc_27 (by decide +kernel)
theorem dX35_branch_23 : decode cX35_branch 23 = .ok (.invokevirtual 509, 3) := dc_182 (a := 1) (b := 253) (n := 509) (by decide +kernel)
theorem dX35_branch_26 : decode cX35_branch 26 = .ok (.aload_n 0, 1) := dc_42 (by decide +kernel)
theorem dX35_branch_27 : decode cX35_branch 27 = .ok (.ldc_w 620, 3) := dc_19 (a := 2) (b := 108) (n := 620) (by decide +kernel)
theorem dX35_branch_30 : decode cX35_branch 30 = .ok (.invokevirtual 509, 3) := dc_182 (a := 1) (b := 253) (n := 509) (by decide +kernel)
theorem dX35_branch_33 : decode cX35_branch 33 = .ok (.return_, 1) := dc_177 (by decide +kernel)
theorem dX35_branch_34 : decode cX35_branch 34 = .ok (.aload_n 0, 1) := dc_42 (by decide +kernel)
theorem dX35_branch_35 : decode cX35_branch 35 = .ok (.getfield 350, 3) := dc_180 (a := 1) (b := 94) (n := 350) (by decide +kernel)
theorem dX35_branch_38 : decode cX35_branch 38 = .ok (.iconst 1, 1) := dc_4 (by decide +kernel)
theorem dX35_branch_39 : decode cX35_branch 39 = .ok (.isub, 1) := dc_100 (by decide +kernel)
theorem dX35_branch_40 : decode cX35_branch 40 = .ok (.istore_n 3, 1) := dc_62 (by decide +kernel)
theorem dX35_branch_41 : decode cX35_branch 41 = .ok (.iload_n 3, 1) := dc_29 (by decide +kernel)
theorem dX35_branch_42 : decode cX35_branch 42 = .ok (.ifCond .lt 34, 3) := dc_155 (a := 0) (b := 34) (v := 34) (by decide +kernel)
theorem dX35_branch_45 : decode cX35_branch 45 = .ok (.iload_n 2, 1) := dc_28 (by decide +kernel)
theorem dX35_branch_46 : decode cX35_branch 46 = .ok (.bipush 21, 2) := dc_16 (a := 21) (v := 21) (by decide +kernel)
theorem dX35_branch_48 : decode cX35_branch 48 = .ok (.if_icmp .eq 13, 3) := dc_159 (a := 0) (b := 13) (v := 13) (by decide +kernel)
theorem dX35_branch_51 : decode cX35_branch 51 = .ok (.aload_n 0, 1) := dc_42 (by decide +kernel)
theorem dX35_branch_52 : decode cX35_branch 52 = .ok (.getfield 118, 3) := dc_180 (a := 0) (b := 118) (n := 118) (by decide +kernel)
theorem dX35_branch_55 : decode cX35_branch 55 = .ok (.iload_n 3, 1) := dc_29 (by decide +kernel)
theorem dX35_branch_56 : decode cX35_branch 56 = .ok (.iaload, 1) := dc_46 (by decide +kernel)
theorem dX35_branch_57 : decode cX35_branch 57 = .ok (.iconst 2, 1) := dc_5 (by decide +kernel)
theorem dX35_branch_58 : decode cX35_branch 58 = .ok (.if_icmp .eq 18, 3) := dc_159 (a := 0) (b := 18) (v := 18) (by decide +kernel)
theorem dX35_branch_61 : decode cX35_branch 61 = .ok (.iload_n 2, 1) := dc_28 (by decide +kernel)
theorem dX35_branch_62 : decode cX35_branch 62 = .ok (.bipush 20, 2) := dc_16 (a := 20) (v := 20) (by decide +kernel)
theorem dX35_branch_64 : decode cX35_branch 64 = .ok (.if_icmp .ne 19, 3) := dc_160 (a := 0) (b := 19) (v := 19) (by decide +kernel)
theorem dX35_branch_67 : decode cX35_branch 67 = .ok (.aload_n 0, 1) := dc_42 (by decide +kernel)
theorem dX35_branch_68 : decode cX35_branch 68 = .ok (.getfield 115, 3) := dc_180 (a := 0) (b := 115) (n := 115) (by decide +kernel)
theorem dX35_branch_71 : decode cX35_branch 71 = .ok (.iload_n 3, 1) := dc_29 (by decide +kernel)
theorem dX35_branch_72 : decode cX35_branch 72 = .ok (.baload, 1) := dc_51 (by decide +kernel)
theorem dX35_branch_73 : decode cX35_branch 73 = .ok (.ifCond .ne 10, 3) := dc_154 (a := 0) (b := 10) (v := 10) (by decide +kernel)
theorem dX35_branch_76 : decode cX35_branch 76 = .ok (.aload_n 0, 1) := dc_42 (by decide +kernel)
theorem dX35_branch_77 : decode cX35_branch 77 = .ok (.bipush 8, 2) := dc_16 (a := 8) (v := 8) (by decide +kernel)
theorem dX35_branch_79 : decode cX35_branch 79 = .ok (.invokevirtual 428, 3) := dc_182 (a := 1) (b := 172) (n := 428) (by decide +kernel)
theorem dX35_branch_82 : decode cX35_branch 82 = .ok (.return_, 1) := dc_177 (by decide +kernel)
theorem dX35_branch_83 : decode cX35_branch 83 = .ok (.iconst 0, 1) := dc_3 (by decide +kernel)
theorem dX35_branch_84 : decode cX35_branch 84 = .ok (.istore 4, 2) := dc_54 (a := 4) (by decide +kernel)
theorem dX35_branch_86 : decode cX35_branch 86 = .ok (.iload_n 2, 1) := dc_28 (by decide +kernel)
theorem dX35_branch_87 : decode cX35_branch 87 = .ok (.bipush 21, 2) := dc_16 (a := 21) (v := 21) (by decide +kernel)
theorem dX35_branch_89 : decode cX35_branch 89 = .ok (.if_icmp .eq 63, 3) := dc_159 (a := 0) (b := 63) (v := 63) (by decide +kernel)
theorem dX35_branch_92 : decode cX35_branch 92 = .ok (.iload 4, 2) := dc_21 (a := 4) (by decide +kernel)
theorem dX35_branch_94 : decode cX35_branch 94 = .ok (.ifCond .lt 58, 3) := dc_155 (a := 0) (b := 58) (v := 58) (by decide +kernel)
theorem dX35_branch_97 : decode cX35_branch 97 = .ok (.aload_n 0, 1) := dc_42 (by decide +kernel)
theorem dX35_branch_98 : decode cX35_branch 98 = .ok (.invokevirtual 506, 3) := dc_182 (a := 1) (b := 250) (n := 506) (by decide +kernel)
theorem dX35_branch_101 : decode cX35_branch 101 = .ok (.istore 5, 2) := dc_54 (a := 5) (by decide +kernel)
theorem dX35_branch_103 : decode cX35_branch 103 = .ok (.aload_n 0, 1) := dc_42 (by decide +kernel)
theorem dX35_branch_104 : decode cX35_branch 104 = .ok (.getfield 321, 3) := dc_180 (a := 1) (b := 65) (n := 321) (by decide +kernel)
theorem dX35_branch_107 : decode cX35_branch 107 = .ok (.ifCond .le 4, 3) := dc_158 (a := 0) (b := 4) (v := 4) (by decide +kernel)
theorem dX35_branch_110 : decode cX35_branch 110 = .ok (.return_, 1) := dc_177 (by decide +kernel)
theorem dX35_branch_111 : decode cX35_branch 111 = .ok (.aload_n 0, 1) := dc_42 (by decide +kernel)
theorem dX35_branch_112 : decode cX35_branch 112 = .ok (.iload 5, 2) := dc_21 (a := 5) (by decide +kernel)
theorem dX35_branch_114 : decode cX35_branch 114 = .ok (.invokevirtual 617, 3) := dc_182 (a := 2) (b := 105) (n := 617) (by decide +kernel)
theorem dX35_branch_117 : decode cX35_branch 117 = .ok (.ifCond .eq 10, 3) := dc_153 (a := 0) (b := 10) (v := 10) (by decide +kernel)
theorem dX35_branch_120 : decode cX35_branch 120 = .ok (.iload 4, 2) := dc_21 (a := 4) (by decide +kernel)
theorem dX35_branch_122 : decode cX35_branch 122 = .ok (.iconst 1, 1) := dc_4 (by decide +kernel)
theorem dX35_branch_123 : decode cX35_branch 123 = .ok (.iadd, 1) := dc_96 (by decide +kernel)
theorem dX35_branch_124 : decode cX35_branch 124 = .ok (.goto 23, 3) := dc_167 (a := 0) (b := 23) (v := 23) (by decide +kernel)
theorem dX35_branch_127 : decode cX35_branch 127 = .ok (.aload_n 0, 1) := dc_42 (by decide +kernel)
theorem dX35_branch_128 : decode cX35_branch 128 = .ok (.iload 5, 2) := dc_21 (a := 5) (by decide +kernel)
theorem dX35_branch_130 : decode cX35_branch 130 = .ok (.bipush 21, 2) := dc_16 (a := 21) (v := 21) (by decide +kernel)
theorem dX35_branch_132 : decode cX35_branch 132 = .ok (.invokevirtual 554, 3) := dc_182 (a := 2) (b := 42) (n := 554) (by decide +kernel)
theorem dX35_branch_135 : decode cX35_branch 135 = .ok (.ifCond .eq 10, 3) := dc_153 (a := 0) (b := 10) (v := 10) (by decide +kernel)
theorem dX35_branch_138 : decode cX35_branch 138 = .ok (.iload 4, 2) := dc_21 (a := 4) (by decide +kernel)
theorem dX35_branch_140 : decode cX35_branch 140 = .ok (.iconst 1, 1) := dc_4 (by decide +kernel)
theorem dX35_branch_141 : decode cX35_branch 141 = .ok (.isub, 1) := dc_100 (by decide +kernel)
theorem dX35_branch_142 : decode cX35_branch 142 = .ok (.goto 5, 3) := dc_167 (a := 0) (b := 5) (v := 5) (by decide +kernel)
theorem dX35_branch_145 : decode cX35_branch 145 = .ok (.iload 4, 2) := dc_21 (a := 4) (by decide +kernel)
theorem dX35_branch_147 : decode cX35_branch 147 = .ok (.istore 4, 2) := dc_54 (a := 4) (by decide +kernel)
theorem dX35_branch_149 : decode cX35_branch 149 = .ok (.goto (-63), 3) := dc_167 (a := 255) (b := 193) (v := -63) (by decide +kernel)
theorem dX35_branch_152 : decode cX35_branch 152 = .ok (.aload_n 0, 1) := dc_42 (by decide +kernel)
theorem dX35_branch_153 : decode cX35_branch 153 = .ok (.dup, 1) := dc_89 (by decide +kernel)
theorem dX35_branch_154 : decode cX35_branch 154 = .ok (.getfield 350, 3) := dc_180 (a := 1) (b := 94) (n := 350) (by decide +kernel)
theorem dX35_branch_157 : decode cX35_branch 157 = .ok (.iconst 1, 1) := dc_4 (by decide +kernel)
theorem dX35_branch_158 : decode cX35_branch 158 = .ok (.isub, 1) := dc_100 (by decide +kernel)
theorem dX35_branch_159 : decode cX35_branch 159 = .ok (.putfield 350, 3) := dc_181 (a := 1) (b := 94) (n := 350) (by decide +kernel)
theorem dX35_branch_162 : decode cX35_branch 162 = .ok (.return_, 1) := dc_177 (by decide +kernel)
theorem GX35_115 {w : eW} {d : Nat} {Y : eY} {pc : Nat} {ls : eL} {st : List Value} {h : eH} {Q : eO → eH → Prop} {a : Nat} {x : Nat} (hf : g_A 34 h a 42 = some x) (hd : decode Y.2.1 pc = .ok (.getfield 115, 3)) (hY : Y.1.cls = RX35) (kk : wp w d Y (pc + 3) ls (.ref x :: st) h Q) : wp w d Y pc ls (.ref a :: st) h Q := x_gA (ci := 34) (k := 42) hf hd rfl (by decide) (by rw [hY]; exact q4544) kk
theorem GX35_118 {w : eW} {d : Nat} {Y : eY} {pc : Nat} {ls : eL} {st : List Value} {h : eH} {Q : eO → eH → Prop} {a : Nat} {x : Nat} (hf : g_A 34 h a 43 = some x) (hd : decode Y.2.1 pc = .ok (.getfield 118, 3)) (hY : Y.1.cls = RX35) (kk : wp w d Y (pc + 3) ls (.ref x :: st) h Q) : wp w d Y pc ls (.ref a :: st) h Q := x_gA (ci := 34) (k := 43) hf hd rfl (by decide) (by rw [hY]; exact q4545) kk
theorem GX35_350 {w : eW} {d : Nat} {Y : eY} {pc : Nat} {ls : eL} {st : List Value} {h : eH} {Q : eO → eH → Prop} {a : Nat} {x : Int32} (hf : g_I 34 h a 41 = some x) (hd : decode Y.2.1 pc = .ok (.getfield 350, 3)) (hY : Y.1.cls = RX35) (kk : wp w d Y (pc + 3) ls (.int x :: st) h Q) : wp w d Y pc ls (.ref a :: st) h Q := x_gI (ci := 34) (k := 41) hf hd rfl (by decide) (by rw [hY]; exact q4543) kk
def fX35_branch_b76 (N : Nat) (l0 : Nat) (h : eH) : Option (Unit × eH) :=
  (k_ok 34 h l0).bind fun _ =>
  (fX35_fail l0 (8 : Int32) h).bind fun q2 =>
  some ((), q2.2)
theorem pX35_branch_b76 {w : eW} {d : Nat} (hd : 6 ≤ d + 1) {N : Nat} {l0 : Nat} {h : eH} {q} (hf : fX35_branch_b76 N l0 h = some q) : wp w (d + 1) YX35_branch 76 [some (.ref l0), none, none, none, none, none] [] h (e_is (e_rn c_V q)) := by
  unfold fX35_branch_b76 at hf
  refine w_aload_n dX35_branch_76 rfl rfl ?_
  refine w_bipush dX35_branch_77 (v := 8) (by decide) ?_
  obtain ⟨_, b1, hf⟩ := Option.bind_eq_some_iff.mp hf
  refine x_cnV hf (e_stV (Yc := YX35_fail) (ci := 34) (av := [.int (8 : Int32)]) (st := []) dX35_branch_79 q5109 mX35_fail rfl (k_ok_some b1).1 (k_ok_some b1).2) mX35_fail.2.2.1 mX35_fail.2.2.2.2.1 (Nat.le_of_ble_eq_true rfl) (Nat.le_of_ble_eq_true rfl) (fun q hq => pX35_fail (by omega) hq) (fun q2 hf => ?_)
  cases hf
  exact w_vret dX35_branch_82 rfl rfl
def fX35_branch_b147 (N : Nat) (k86 : Nat → Int32 → Int32 → eH → Option (Unit × eH)) (l0 : Nat) (l2 : Int32) (s0 : Int32) (h : eH) : Option (Unit × eH) :=
  k86 l0 l2 s0 h
theorem pX35_branch_b147 {w : eW} {d : Nat} (hd : 6 ≤ d + 1) {N : Nat} {k86 : Nat → Int32 → Int32 → eH → Option (Unit × eH)} (hk86 : ∀ l0 l2 l4 h q, k86 l0 l2 l4 h = some q → wp w (d + 1) YX35_branch 86 [some (.ref l0), none, some (.int l2), none, some (.int l4), none] [] h (e_is (e_rn c_V q))) {l0 : Nat} {l2 : Int32} {s0 : Int32} {h : eH} {q} (hf : fX35_branch_b147 N k86 l0 l2 s0 h = some q) : wp w (d + 1) YX35_branch 147 [some (.ref l0), none, some (.int l2), none, none, none] [.int s0] h (e_is (e_rn c_V q)) := by
  unfold fX35_branch_b147 at hf
  refine w_istore dX35_branch_147 (by decide) (ls' := [some (.ref l0), none, some (.int l2), none, some (.int s0), none]) rfl ?_
  refine w_goto 86 dX35_branch_149 (by decide) ?_
  exact (hk86 _ _ _ _ _ hf).to ⟨rfl, rfl, rfl, trivial⟩
def fX35_branch_b152 (N : Nat) (l0 : Nat) (h : eH) : Option (Unit × eH) :=
  (g_I 34 h l0 41).bind fun x1 =>
  (p_V 34 h l0 41 (.int (x1 - (1 : Int32)))).bind fun h3 =>
  some ((), h3)
theorem pX35_branch_b152 {w : eW} {d : Nat} (hd : 6 ≤ d + 1) {N : Nat} {l0 : Nat} {h : eH} {q} (hf : fX35_branch_b152 N l0 h = some q) : wp w (d + 1) YX35_branch 152 [some (.ref l0), none, none, none, none, none] [] h (e_is (e_rn c_V q)) := by
  unfold fX35_branch_b152 at hf
  refine w_aload_n dX35_branch_152 rfl rfl ?_
  refine w_dup dX35_branch_153 rfl ?_
  obtain ⟨x1, b2, hf⟩ := Option.bind_eq_some_iff.mp hf
  refine GX35_350 b2 dX35_branch_154 rfl ?_
  refine w_iconst dX35_branch_157 (v := 1) (by decide) ?_
  refine w_isub dX35_branch_158 ?_
  obtain ⟨h3, b4, hf⟩ := Option.bind_eq_some_iff.mp hf
  refine SX35_350 b4 dX35_branch_159 rfl ?_
  cases hf
  exact w_vret dX35_branch_162 rfl rfl
def fX35_branch_b86 (N : Nat) : Nat → Nat → Int32 → Int32 → eH → Option (Unit × eH)
  | 0, _, _, _, _ => none
  | n + 1, l0, l2, l4, h =>
    if l2 = (21 : Int32) then
      fX35_branch_b152 N l0 h
    else
      if l4 < 0 then
        fX35_branch_b152 N l0 h
      else
        (k_ok 34 h l0).bind fun _ =>
        (fX35_need N l0 h).bind fun q4 =>
        (g_I 34 q4.2 l0 46).bind fun x5 =>
        if x5 ≤ 0 then
          (k_ok 34 q4.2 l0).bind fun _ =>
          (fX35_isCondition l0 q4.1 q4.2).bind fun q9 =>
          if q9.1 = 0 then
            (k_ok 34 q9.2 l0).bind fun _ =>
            (fX35_means l0 q4.1 (21 : Int32) q9.2).bind fun q12 =>
            if q12.1 = 0 then
              fX35_branch_b147 N (fX35_branch_b86 N n) l0 l2 l4 q12.2
            else
              fX35_branch_b147 N (fX35_branch_b86 N n) l0 l2 (l4 - (1 : Int32)) q12.2
          else
            fX35_branch_b147 N (fX35_branch_b86 N n) l0 l2 (l4 + (1 : Int32)) q9.2
        else
          some ((), q4.2)
theorem pX35_branch_b86 {w : eW} {d : Nat} (hd : 6 ≤ d + 1) {N : Nat} : ∀ (n : Nat) l0 l2 l4 h q, fX35_branch_b86 N n l0 l2 l4 h = some q → wp w (d + 1) YX35_branch 86 [some (.ref l0), none, some (.int l2), none, some (.int l4), none] [] h (e_is (e_rn c_V q)) := by
  intro n
  induction n with
  | zero => intro l0 l2 l4 h q hf; simp [fX35_branch_b86] at hf
  | succ n ih =>
    intro l0 l2 l4 h q hf
    rw [fX35_branch_b86] at hf
    refine w_iload_n dX35_branch_86 rfl rfl ?_
    refine w_bipush dX35_branch_87 (v := 21) (by decide) ?_
    refine w_icmp_eq 152 dX35_branch_89 (by decide) (fun c1 => ?_) (fun c1 => ?_)
    · replace hf := (if_pos (show l2 = (21 : Int32) from c1)).symm.trans hf
      exact (pX35_branch_b152 hd hf).to ⟨rfl, trivial⟩
    · replace hf := (if_neg (show ¬ (l2 = (21 : Int32)) from c1)).symm.trans hf
      refine w_iload dX35_branch_92 rfl ?_
      refine w_if_lt 152 dX35_branch_94 (by decide) (fun c2 => ?_) (fun c2 => ?_)
      · replace hf := (if_pos (show l4 < 0 from c2)).symm.trans hf
        exact (pX35_branch_b152 hd hf).to ⟨rfl, trivial⟩
      · replace hf := (if_neg (show ¬ (l4 < 0) from c2)).symm.trans hf
        refine w_aload_n dX35_branch_97 rfl rfl ?_
        obtain ⟨_, b3, hf⟩ := Option.bind_eq_some_iff.mp hf
        refine x_cnI hf (e_stV (Yc := YX35_need) (ci := 34) (av := []) (st := []) dX35_branch_98 q5154 mX35_need rfl (k_ok_some b3).1 (k_ok_some b3).2) mX35_need.2.2.1 mX35_need.2.2.2.2.1 (Nat.le_of_ble_eq_true rfl) (Nat.le_of_ble_eq_true rfl) (fun q hq => pX35_need (by omega) hq) (fun q4 hf => ?_)
        refine w_istore dX35_branch_101 (by decide) (ls' := [some (.ref l0), none, some (.int l2), none, some (.int l4), some (.int q4.1)]) rfl ?_
        refine w_aload_n dX35_branch_103 rfl rfl ?_
        obtain ⟨x5, b6, hf⟩ := Option.bind_eq_some_iff.mp hf
        refine GX35_321 b6 dX35_branch_104 rfl ?_
        refine w_if_le 111 dX35_branch_107 (by decide) (fun c7 => ?_) (fun c7 => ?_)
        · replace hf := (if_pos (show x5 ≤ 0 from c7)).symm.trans hf
          refine w_aload_n dX35_branch_111 rfl rfl ?_
          refine w_iload dX35_branch_112 rfl ?_
          obtain ⟨_, b8, hf⟩ := Option.bind_eq_some_iff.mp hf
          refine x_cnI hf (e_stV (Yc := YX35_isCondition) (ci := 34) (av := [.int q4.1]) (st := []) dX35_branch_114 q5321 mX35_isCondition rfl (k_ok_some b8).1 (k_ok_some b8).2) mX35_isCondition.2.2.1 mX35_isCondition.2.2.2.2.1 (Nat.le_of_ble_eq_true rfl) (Nat.le_of_ble_eq_true rfl) (fun q hq => pX35_isCondition (by omega) hq) (fun q9 hf => ?_)
          refine w_if_eq 127 dX35_branch_117 (by decide) (fun c10 => ?_) (fun c10 => ?_)
          · replace hf := (if_pos (show q9.1 = 0 from c10)).symm.trans hf
            refine w_aload_n dX35_branch_127 rfl rfl ?_
            refine w_iload dX35_branch_128 rfl ?_
            refine w_bipush dX35_branch_130 (v := 21) (by decide) ?_
            obtain ⟨_, b11, hf⟩ := Option.bind_eq_some_iff.mp hf
            refine x_cnI hf (e_stV (Yc := YX35_means) (ci := 34) (av := [.int q4.1, .int (21 : Int32)]) (st := []) dX35_branch_132 q5197 mX35_means rfl (k_ok_some b11).1 (k_ok_some b11).2) mX35_means.2.2.1 mX35_means.2.2.2.2.1 (Nat.le_of_ble_eq_true rfl) (Nat.le_of_ble_eq_true rfl) (fun q hq => pX35_means (by omega) hq) (fun q12 hf => ?_)
            refine w_if_eq 145 dX35_branch_135 (by decide) (fun c13 => ?_) (fun c13 => ?_)
            · replace hf := (if_pos (show q12.1 = 0 from c13)).symm.trans hf
              refine w_iload dX35_branch_145 rfl ?_
              exact (pX35_branch_b147 hd ih hf).to ⟨rfl, rfl, trivial⟩
            · replace hf := (if_neg (show ¬ (q12.1 = 0) from c13)).symm.trans hf
              refine w_iload dX35_branch_138 rfl ?_
              refine w_iconst dX35_branch_140 (v := 1) (by decide) ?_
              refine w_isub dX35_branch_141 ?_
              refine w_goto 147 dX35_branch_142 (by decide) ?_
              exact (pX35_branch_b147 hd ih hf).to ⟨rfl, rfl, trivial⟩
          · replace hf := (if_neg (show ¬ (q9.1 = 0) from c10)).symm.trans hf
            refine w_iload dX35_branch_120 rfl ?_
            refine w_iconst dX35_branch_122 (v := 1) (by decide) ?_
            refine w_iadd dX35_branch_123 ?_
            refine w_goto 147 dX35_branch_124 (by decide) ?_
            exact (pX35_branch_b147 hd ih hf).to ⟨rfl, rfl, trivial⟩
        · replace hf := (if_neg (show ¬ (x5 ≤ 0) from c7)).symm.trans hf
          cases hf
          exact w_vret dX35_branch_110 rfl rfl
def fX35_branch_b83 (N : Nat) (l0 : Nat) (l2 : Int32) (h : eH) : Option (Unit × eH) :=
  fX35_branch_b86 N N l0 l2 (0 : Int32) h
theorem pX35_branch_b83 {w : eW} {d : Nat} (hd : 6 ≤ d + 1) {N : Nat} {l0 : Nat} {l2 : Int32} {h : eH} {q} (hf : fX35_branch_b83 N l0 l2 h = some q) : wp w (d + 1) YX35_branch 83 [some (.ref l0), none, some (.int l2), none, none, none] [] h (e_is (e_rn c_V q)) := by
  unfold fX35_branch_b83 at hf
  refine w_iconst dX35_branch_83 (v := 0) (by decide) ?_
  refine w_istore dX35_branch_84 (by decide) (ls' := [some (.ref l0), none, some (.int l2), none, some (.int (0 : Int32)), none]) rfl ?_
  exact (pX35_branch_b86 hd N _ _ _ _ _ hf).to ⟨rfl, rfl, rfl, trivial⟩
def fX35_branch_b61 (N : Nat) (l0 : Nat) (l2 : Int32) (l3 : Int32) (h : eH) : Option (Unit × eH) :=
  if ¬ l2 = (20 : Int32) then
    fX35_branch_b83 N l0 l2 h
  else
    (g_A 34 h l0 42).bind fun a2 =>
    (r_I 103 h a2 l3).bind fun x4 =>
    if ¬ x4 = 0 then
      fX35_branch_b83 N l0 l2 h
    else
      fX35_branch_b76 N l0 h
theorem pX35_branch_b61 {w : eW} {d : Nat} (hd : 6 ≤ d + 1) {N : Nat} {l0 : Nat} {l2 : Int32} {l3 : Int32} {h : eH} {q} (hf : fX35_branch_b61 N l0 l2 l3 h = some q) : wp w (d + 1) YX35_branch 61 [some (.ref l0), none, some (.int l2), some (.int l3), none, none] [] h (e_is (e_rn c_V q)) := by
  unfold fX35_branch_b61 at hf
  refine w_iload_n dX35_branch_61 rfl rfl ?_
  refine w_bipush dX35_branch_62 (v := 20) (by decide) ?_
  refine w_icmp_ne 83 dX35_branch_64 (by decide) (fun c1 => ?_) (fun c1 => ?_)
  · replace hf := (if_pos (show ¬ l2 = (20 : Int32) from c1)).symm.trans hf
    exact (pX35_branch_b83 hd hf).to ⟨rfl, rfl, trivial⟩
  · replace hf := (if_neg (show ¬ (¬ l2 = (20 : Int32)) from (fun z => z c1))).symm.trans hf
    refine w_aload_n dX35_branch_67 rfl rfl ?_
    obtain ⟨a2, b3, hf⟩ := Option.bind_eq_some_iff.mp hf
    refine GX35_115 b3 dX35_branch_68 rfl ?_
    refine w_iload_n dX35_branch_71 rfl rfl ?_
    obtain ⟨x4, b5, hf⟩ := Option.bind_eq_some_iff.mp hf
    refine x_rZ b5 dX35_branch_72 ?_
    refine w_if_ne 83 dX35_branch_73 (by decide) (fun c6 => ?_) (fun c6 => ?_)
    · replace hf := (if_pos (show ¬ x4 = 0 from c6)).symm.trans hf
      exact (pX35_branch_b83 hd hf).to ⟨rfl, rfl, trivial⟩
    · replace hf := (if_neg (show ¬ (¬ x4 = 0) from (fun z => z c6))).symm.trans hf
      exact (pX35_branch_b76 hd hf).to ⟨rfl, trivial⟩
def fX35_branch_b34 (N : Nat) (l0 : Nat) (l2 : Int32) (h : eH) : Option (Unit × eH) :=
  (g_I 34 h l0 41).bind fun x1 =>
  if (x1 - (1 : Int32)) < 0 then
    fX35_branch_b76 N l0 h
  else
    if l2 = (21 : Int32) then
      fX35_branch_b61 N l0 l2 (x1 - (1 : Int32)) h
    else
      (g_A 34 h l0 43).bind fun a5 =>
      (r_I 100 h a5 (x1 - (1 : Int32))).bind fun x7 =>
      if x7 = (2 : Int32) then
        fX35_branch_b76 N l0 h
      else
        fX35_branch_b61 N l0 l2 (x1 - (1 : Int32)) h
theorem pX35_branch_b34 {w : eW} {d : Nat} (hd : 6 ≤ d + 1) {N : Nat} {l0 : Nat} {l2 : Int32} {h : eH} {q} (hf : fX35_branch_b34 N l0 l2 h = some q) : wp w (d + 1) YX35_branch 34 [some (.ref l0), none, some (.int l2), none, none, none] [] h (e_is (e_rn c_V q)) := by
  unfold fX35_branch_b34 at hf
  refine w_aload_n dX35_branch_34 rfl rfl ?_
  obtain ⟨x1, b2, hf⟩ := Option.bind_eq_some_iff.mp hf
  refine GX35_350 b2 dX35_branch_35 rfl ?_
  refine w_iconst dX35_branch_38 (v := 1) (by decide) ?_
  refine w_isub dX35_branch_39 ?_
  refine w_istore_n dX35_branch_40 rfl (by decide) (ls' := [some (.ref l0), none, some (.int l2), some (.int (x1 - (1 : Int32))), none, none]) rfl ?_
  refine w_iload_n dX35_branch_41 rfl rfl ?_
  refine w_if_lt 76 dX35_branch_42 (by decide) (fun c3 => ?_) (fun c3 => ?_)
  · replace hf := (if_pos (show (x1 - (1 : Int32)) < 0 from c3)).symm.trans hf
    exact (pX35_branch_b76 hd hf).to ⟨rfl, trivial⟩
  · replace hf := (if_neg (show ¬ ((x1 - (1 : Int32)) < 0) from c3)).symm.trans hf
    refine w_iload_n dX35_branch_45 rfl rfl ?_
    refine w_bipush dX35_branch_46 (v := 21) (by decide) ?_
    refine w_icmp_eq 61 dX35_branch_48 (by decide) (fun c4 => ?_) (fun c4 => ?_)
    · replace hf := (if_pos (show l2 = (21 : Int32) from c4)).symm.trans hf
      exact (pX35_branch_b61 hd hf).to ⟨rfl, rfl, rfl, trivial⟩
    · replace hf := (if_neg (show ¬ (l2 = (21 : Int32)) from c4)).symm.trans hf
      refine w_aload_n dX35_branch_51 rfl rfl ?_
      obtain ⟨a5, b6, hf⟩ := Option.bind_eq_some_iff.mp hf
      refine GX35_118 b6 dX35_branch_52 rfl ?_
      refine w_iload_n dX35_branch_55 rfl rfl ?_
      obtain ⟨x7, b8, hf⟩ := Option.bind_eq_some_iff.mp hf
      refine x_rI b8 dX35_branch_56 ?_
      refine w_iconst dX35_branch_57 (v := 2) (by decide) ?_
      refine w_icmp_eq 76 dX35_branch_58 (by decide) (fun c9 => ?_) (fun c9 => ?_)
      · replace hf := (if_pos (show x7 = (2 : Int32) from c9)).symm.trans hf
        exact (pX35_branch_b76 hd hf).to ⟨rfl, trivial⟩
      · replace hf := (if_neg (show ¬ (x7 = (2 : Int32)) from c9)).symm.trans hf
        exact (pX35_branch_b61 hd hf).to ⟨rfl, rfl, rfl, trivial⟩
def fX35_branch (N : Nat) (this : Nat) (p0 : Int32) (p1 : Int32) (h : eH) : Option (Unit × eH) :=
  (g_I 34 h this 41).bind fun x1 =>
  if x1 ≤ 0 then
    fX35_branch_b34 N this p1 h
  else
    (g_A 34 h this 43).bind fun a4 =>
    (g_I 34 h this 41).bind fun x6 =>
    (r_I 100 h a4 (x6 - (1 : Int32))).bind fun x8 =>
    if ¬ x8 = 0 then
      fX35_branch_b34 N this p1 h
    else
      (k_ok 34 h this).bind fun _ =>
      (fX35_put this p0 h).bind fun q12 =>
      (k_ok 34 q12.2 this).bind fun _ =>
      (fX35_put this (589846 : Int32) q12.2).bind fun q14 =>
      some ((), q14.2)
theorem pX35_branch {w : eW} {d : Nat} (hd : 6 ≤ d) {N : Nat} {this : Nat} {p0 : Int32} {p1 : Int32} {h : eH} {q} (hf : fX35_branch N this p0 p1 h = some q) : wm w d YX35_branch [.ref this, .int p0, .int p1] h (e_is (e_rn c_V q)) := by
  obtain ⟨d, rfl⟩ : ∃ e, d = e + 1 := ⟨d - 1, by omega⟩
  show wp w (d + 1) YX35_branch 0 [some (.ref this), some (.int p0), some (.int p1), none, none, none] [] h _
  unfold fX35_branch at hf
  refine w_aload_n dX35_branch_0 rfl rfl ?_
  obtain ⟨x1, b2, hf⟩ := Option.bind_eq_some_iff.mp hf
  refine GX35_350 b2 dX35_branch_1 rfl ?_
  refine w_if_le 34 dX35_branch_4 (by decide) (fun c3 => ?_) (fun c3 => ?_)
  · replace hf := (if_pos (show x1 ≤ 0 from c3)).symm.trans hf
    exact (pX35_branch_b34 hd hf).to ⟨rfl, rfl, trivial⟩
  · replace hf := (if_neg (show ¬ (x1 ≤ 0) from c3)).symm.trans hf
    refine w_aload_n dX35_branch_7 rfl rfl ?_
    obtain ⟨a4, b5, hf⟩ := Option.bind_eq_some_iff.mp hf
    refine GX35_118 b5 dX35_branch_8 rfl ?_
    refine w_aload_n dX35_branch_11 rfl rfl ?_
    obtain ⟨x6, b7, hf⟩ := Option.bind_eq_some_iff.mp hf
    refine GX35_350 b7 dX35_branch_12 rfl ?_
    refine w_iconst dX35_branch_15 (v := 1) (by decide) ?_
    refine w_isub dX35_branch_16 ?_
    obtain ⟨x8, b9, hf⟩ := Option.bind_eq_some_iff.mp hf
    refine x_rI b9 dX35_branch_17 ?_
    refine w_if_ne 34 dX35_branch_18 (by decide) (fun c10 => ?_) (fun c10 => ?_)
    · replace hf := (if_pos (show ¬ x8 = 0 from c10)).symm.trans hf
      exact (pX35_branch_b34 hd hf).to ⟨rfl, rfl, trivial⟩
    · replace hf := (if_neg (show ¬ (¬ x8 = 0) from (fun z => z c10))).symm.trans hf
      refine w_aload_n dX35_branch_21 rfl rfl ?_
      refine w_iload_n dX35_branch_22 rfl rfl ?_
      obtain ⟨_, b11, hf⟩ := Option.bind_eq_some_iff.mp hf
      refine x_cnV hf (e_stV (Yc := YX35_put) (ci := 34) (av := [.int p0]) (st := []) dX35_branch_23 q5181 mX35_put rfl (k_ok_some b11).1 (k_ok_some b11).2) mX35_put.2.2.1 mX35_put.2.2.2.2.1 (Nat.le_of_ble_eq_true rfl) (Nat.le_of_ble_eq_true rfl) (fun q hq => pX35_put (by omega) hq) (fun q12 hf => ?_)
      refine w_aload_n dX35_branch_26 rfl rfl ?_
      refine w_ldc_w dX35_branch_27 q5320 ?_
      obtain ⟨_, b13, hf⟩ := Option.bind_eq_some_iff.mp hf
      refine x_cnV hf (e_stV (Yc := YX35_put) (ci := 34) (av := [.int (589846 : Int32)]) (st := []) dX35_branch_30 q5181 mX35_put rfl (k_ok_some b13).1 (k_ok_some b13).2) mX35_put.2.2.1 mX35_put.2.2.2.2.1 (Nat.le_of_ble_eq_true rfl) (Nat.le_of_ble_eq_true rfl) (fun q hq => pX35_put (by omega) hq) (fun q14 hf => ?_)
      cases hf
      exact w_vret dX35_branch_33 rfl rfl
abbrev cX35_isSame : ByteArray := prog_37_method_51_code
def yX35_isSame : MethodName := ⟨RX35, "isSame", "(II)Z"⟩
def YX35_isSame : eY := (yX35_isSame, cX35_isSame, 3, (Option.some FieldType.boolean), [])
theorem mX35_isSame : e_mv YX35_isSame RX35 2 := ⟨q5160, qs253, q5161, by decide, by decide +kernel, (e_sig (by decide +kernel))⟩
theorem dX35_isSame_0 : decode cX35_isSame 0 = .ok (.iload_n 1, 1) := dc_27 (by decide +kernel)
theorem dX35_isSame_1 : decode cX35_isSame 1 = .ok (.invokestatic 464, 3) := dc_184 (a := 1) (b := 208) (n := 464) (by decide +kernel)
theorem dX35_isSame_4 : decode cX35_isSame 4 = .ok (.iload_n 2, 1) := dc_28 (by decide +kernel)
theorem dX35_isSame_5 : decode cX35_isSame 5 = .ok (.invokestatic 464, 3) := dc_184 (a := 1) (b := 208) (n := 464) (by decide +kernel)
theorem dX35_isSame_8 : decode cX35_isSame 8 = .ok (.if_icmp .ne 7, 3) := dc_160 (a := 0) (b := 7) (v := 7) (by decide +kernel)
theorem dX35_isSame_11 : decode cX35_isSame 11 = .ok (.iconst 1, 1) := dc_4 (by decide +kernel)
theorem dX35_isSame_12 : decode cX35_isSame 12 = .ok (.goto 4, 3) := dc_167 (a := 0) (b := 4) (v := 4) (by decide +kernel)
theorem dX35_isSame_15 : decode cX35_isSame 15 = .ok (.iconst 0, 1) := dc_3 (by decide +kernel)
theorem dX35_isSame_16 : decode cX35_isSame 16 = .ok (.ireturn, 1) := dc_172 (by decide +kernel)
def fX35_isSame_b16 (s0 : Int32) (h : eH) : Option (Int32 × eH) :=
  z_r s0 (s0, h)
theorem pX35_isSame_b16 {w : eW} {d : Nat} (hd : 1 ≤ d + 1) {s0 : Int32} {h : eH} {q} (hf : fX35_isSame_b16 s0 h = some q) : wp w (d + 1) YX35_isSame 16 [none, none, none] [.int s0] h (e_is (e_rn c_I q)) := by
  unfold fX35_isSame_b16 at hf
  obtain ⟨b1, rfl⟩ := z_r_some hf
  exact w_iret dX35_isSame_16 rfl b1 rfl
def fX35_isSame (this : Nat) (p0 : Int32) (p1 : Int32) (h : eH) : Option (Int32 × eH) :=
  (fX35_bare p0 h).bind fun q1 =>
  (fX35_bare p1 q1.2).bind fun q2 =>
  if ¬ q1.1 = q2.1 then
    fX35_isSame_b16 (0 : Int32) q2.2
  else
    fX35_isSame_b16 (1 : Int32) q2.2
theorem pX35_isSame {w : eW} {d : Nat} (hd : 1 ≤ d) {this : Nat} {p0 : Int32} {p1 : Int32} {h : eH} {q} (hf : fX35_isSame this p0 p1 h = some q) : wm w d YX35_isSame [.ref this, .int p0, .int p1] h (e_is (e_rn c_I q)) := by
  obtain ⟨d, rfl⟩ : ∃ e, d = e + 1 := ⟨d - 1, by omega⟩
  show wp w (d + 1) YX35_isSame 0 [some (.ref this), some (.int p0), some (.int p1)] [] h _
  unfold fX35_isSame at hf
  refine w_iload_n dX35_isSame_0 rfl rfl ?_
  refine x_cnI hf (e_stS (Yc := YX35_bare) (av := [.int p0]) (st := []) dX35_isSame_1 q5139 mX35_bare) mX35_bare.2.2.1 mX35_bare.2.2.2.2.1 (Nat.le_of_ble_eq_true rfl) (Nat.le_of_ble_eq_true rfl) (fun q hq => pX35_bare (by omega) hq) (fun q1 hf => ?_)
  refine w_iload_n dX35_isSame_4 rfl rfl ?_
  refine x_cnI hf (e_stS (Yc := YX35_bare) (av := [.int p1]) (st := [.int q1.1]) dX35_isSame_5 q5139 mX35_bare) mX35_bare.2.2.1 mX35_bare.2.2.2.2.1 (Nat.le_of_ble_eq_true rfl) (Nat.le_of_ble_eq_true rfl) (fun q hq => pX35_bare (by omega) hq) (fun q2 hf => ?_)
  refine w_icmp_ne 15 dX35_isSame_8 (by decide) (fun c3 => ?_) (fun c3 => ?_)
  · replace hf := (if_pos (show ¬ q1.1 = q2.1 from c3)).symm.trans hf
    refine w_iconst dX35_isSame_15 (v := 0) (by decide) ?_
    exact (pX35_isSame_b16 hd hf).to trivial
  · replace hf := (if_neg (show ¬ (¬ q1.1 = q2.1) from (fun z => z c3))).symm.trans hf
    refine w_iconst dX35_isSame_11 (v := 1) (by decide) ?_
    refine w_goto 16 dX35_isSame_12 (by decide) ?_
    exact (pX35_isSame_b16 hd hf).to trivial
abbrev cX35_takeOne : ByteArray := prog_37_method_54_code
def yX35_takeOne : MethodName := ⟨RX35, "takeOne", "(I)V"⟩
def YX35_takeOne : eY := (yX35_takeOne, cX35_takeOne, 6, none, [])
theorem mX35_takeOne : e_mv YX35_takeOne RX35 1 := ⟨q5164, qs254, q5165, by decide, by decide +kernel, (e_sig (by decide +kernel))⟩
theorem dX35_takeOne_0 : decode cX35_takeOne 0 = .ok (.aload_n 0, 1) := dc_42 (by decide +kernel)
theorem dX35_takeOne_1 : decode cX35_takeOne 1 = .ok (.invokevirtual 506, 3) := dc_182 (a := 1) (b := 250) (n := 506) (by decide +kernel)
theorem dX35_takeOne_4 : decode cX35_takeOne 4 = .ok (.istore_n 2, 1) := dc_61 (by decide +kernel)
theorem dX35_takeOne_5 : decode cX35_takeOne 5 = .ok (.iload_n 2, 1) := dc_28 (by decide +kernel)
theorem dX35_takeOne_6 : decode cX35_takeOne 6 = .ok (.bipush 10, 2) := dc_16 (a := 10) (v := 10) (by decide +kernel)
theorem dX35_takeOne_8 : decode cX35_takeOne 8 = .ok (.invokestatic 493, 3) := dc_184 (a := 1) (b := 237) (n := 493) (by decide +kernel)
theorem dX35_takeOne_11 : decode cX35_takeOne 11 = .ok (.ifCond .eq 11, 3) := dc_153 (a := 0) (b := 11) (v := 11) (by decide +kernel)
theorem dX35_takeOne_14 : decode cX35_takeOne 14 = .ok (.aload_n 0, 1) := dc_42 (by decide +kernel)
theorem dX35_takeOne_15 : decode cX35_takeOne 15 = .ok (.invokevirtual 506, 3) := dc_182 (a := 1) (b := 250) (n := 506) (by decide +kernel)
theorem dX35_takeOne_18 : decode cX35_takeOne 18 = .ok (.istore_n 2, 1) := dc_61 (by decide +kernel)
theorem dX35_takeOne_19 : decode cX35_takeOne 19 = .ok (.goto (-14), 3) := dc_167 (a := 255) (b := 242) (v := -14) (by decide +kernel)
theorem dX35_takeOne_22 : decode cX35_takeOne 22 = .ok (.aload_n 0, 1) := dc_42 (by decide +kernel)
theorem dX35_takeOne_23 : decode cX35_takeOne 23 = .ok (.getfield 112, 3) := dc_180 (a := 0) (b := 112) (n := 112) (by decide +kernel)
theorem dX35_takeOne_26 : decode cX35_takeOne 26 = .ok (.iload_n 1, 1) := dc_27 (by decide +kernel)
theorem dX35_takeOne_27 : decode cX35_takeOne 27 = .ok (.iconst 0, 1) := dc_3 (by decide +kernel)
theorem dX35_takeOne_28 : decode cX35_takeOne 28 = .ok (.iastore, 1) := dc_79 (by decide +kernel)
theorem dX35_takeOne_29 : decode cX35_takeOne 29 = .ok (.aload_n 0, 1) := dc_42 (by decide +kernel)
theorem dX35_takeOne_30 : decode cX35_takeOne 30 = .ok (.getfield 321, 3) := dc_180 (a := 1) (b := 65) (n := 321) (by decide +kernel)
theorem dX35_takeOne_33 : decode cX35_takeOne 33 = .ok (.ifCond .le 4, 3) := dc_158 (a := 0) (b := 4) (v := 4) (by decide +kernel)
theorem dX35_takeOne_36 : decode cX35_takeOne 36 = .ok (.return_, 1) := dc_177 (by decide +kernel)
theorem dX35_takeOne_37 : decode cX35_takeOne 37 = .ok (.iload_n 2, 1) := dc_28 (by decide +kernel)
theorem dX35_takeOne_38 : decode cX35_takeOne 38 = .ok (.iconst 2, 1) := dc_5 (by decide +kernel)
theorem dX35_takeOne_39 : decode cX35_takeOne 39 = .ok (.invokestatic 493, 3) := dc_184 (a := 1) (b := 237) (n := 493) (by decide +kernel)
theorem dX35_takeOne_42 : decode cX35_takeOne 42 = .ok (.ifCond .eq 9, 3) := dc_153 (a := 0) (b := 9) (v := 9) (by decide +kernel)
theorem dX35_takeOne_45 : decode cX35_takeOne 45 = .ok (.aload_n 0, 1) := dc_42 (by decide +kernel)
theorem dX35_takeOne_46 : decode cX35_takeOne 46 = .ok (.iconst 5, 1) := dc_8 (by decide +kernel)
theorem dX35_takeOne_47 : decode cX35_takeOne 47 = .ok (.invokevirtual 428, 3) := dc_182 (a := 1) (b := 172) (n := 428) (by decide +kernel)
theorem dX35_takeOne_50 : decode cX35_takeOne 50 = .ok (.return_, 1) := dc_177 (by decide +kernel)
theorem dX35_takeOne_51 : decode cX35_takeOne 51 = .ok (.iload_n 2, 1) := dc_28 (by decide +kernel)
theorem dX35_takeOne_52 : decode cX35_takeOne 52 = .ok (.iconst 1, 1) := dc_4 (by decide +kernel)
theorem dX35_takeOne_53 : decode cX35_takeOne 53 = .ok (.invokestatic 493, 3) := dc_184 (a := 1) (b := 237) (n := 493) (by decide +kernel)
theorem dX35_takeOne_56 : decode cX35_takeOne 56 = .ok (.ifCond .ne 22, 3) := dc_154 (a := 0) (b := 22) (v := 22) (by decide +kernel)
theorem dX35_takeOne_59 : decode cX35_takeOne 59 = .ok (.aload_n 0, 1) := dc_42 (by decide +kernel)
theorem dX35_takeOne_60 : decode cX35_takeOne 60 = .ok (.getfield 109, 3) := dc_180 (a := 0) (b := 109) (n := 109) (by decide +kernel)
theorem dX35_takeOne_63 : decode cX35_takeOne 63 = .ok (.sipush 11000, 3) := dc_17 (a := 42) (b := 248) (v := 11000) (by decide +kernel)
theorem dX35_takeOne_66 : decode cX35_takeOne 66 = .ok (.iload_n 1, 1) := dc_27 (by decide +kernel)
theorem dX35_takeOne_67 : decode cX35_takeOne 67 = .ok (.imul, 1) := dc_104 (by decide +kernel)
theorem dX35_takeOne_68 : decode cX35_takeOne 68 = .ok (.iload_n 2, 1) := dc_28 (by decide +kernel)
theorem dX35_takeOne_69 : decode cX35_takeOne 69 = .ok (.iastore, 1) := dc_79 (by decide +kernel)
theorem dX35_takeOne_70 : decode cX35_takeOne 70 = .ok (.aload_n 0, 1) := dc_42 (by decide +kernel)
theorem dX35_takeOne_71 : decode cX35_takeOne 71 = .ok (.getfield 112, 3) := dc_180 (a := 0) (b := 112) (n := 112) (by decide +kernel)
theorem dX35_takeOne_74 : decode cX35_takeOne 74 = .ok (.iload_n 1, 1) := dc_27 (by decide +kernel)
theorem dX35_takeOne_75 : decode cX35_takeOne 75 = .ok (.iconst 1, 1) := dc_4 (by decide +kernel)
theorem dX35_takeOne_76 : decode cX35_takeOne 76 = .ok (.iastore, 1) := dc_79 (by decide +kernel)
theorem dX35_takeOne_77 : decode cX35_takeOne 77 = .ok (.return_, 1) := dc_177 (by decide +kernel)
theorem dX35_takeOne_78 : decode cX35_takeOne 78 = .ok (.iconst 1, 1) := dc_4 (by decide +kernel)
theorem dX35_takeOne_79 : decode cX35_takeOne 79 = .ok (.istore_n 3, 1) := dc_62 (by decide +kernel)
theorem dX35_takeOne_80 : decode cX35_takeOne 80 = .ok (.iconst 1, 1) := dc_4 (by decide +kernel)
theorem dX35_takeOne_81 : decode cX35_takeOne 81 = .ok (.istore 4, 2) := dc_54 (a := 4) (by decide +kernel)
theorem dX35_takeOne_83 : decode cX35_takeOne 83 = .ok (.iconst 0, 1) := dc_3 (by decide +kernel)
theorem dX35_takeOne_84 : decode cX35_takeOne 84 = .ok (.istore 5, 2) := dc_54 (a := 5) (by decide +kernel)
theorem dX35_takeOne_86 : decode cX35_takeOne 86 = .ok (.iload 4, 2) := dc_21 (a := 4) (by decide +kernel)
theorem dX35_takeOne_88 : decode cX35_takeOne 88 = .ok (.ifCond .le 97, 3) := dc_158 (a := 0) (b := 97) (v := 97) (by decide +kernel)
theorem dX35_takeOne_91 : decode cX35_takeOne 91 = .ok (.aload_n 0, 1) := dc_42 (by decide +kernel)
theorem dX35_takeOne_92 : decode cX35_takeOne 92 = .ok (.invokevirtual 506, 3) := dc_182 (a := 1) (b := 250) (n := 506) (by decide +kernel)
theorem dX35_takeOne_95 : decode cX35_takeOne 95 = .ok (.istore_n 2, 1) := dc_61 (by decide +kernel)
theorem dX35_takeOne_96 : decode cX35_takeOne 96 = .ok (.iinc 3 1, 3) := dc_132 (a := 3) (b := 1) (v := 1) (by decide +kernel)
theorem dX35_takeOne_99 : decode cX35_takeOne 99 = .ok (.aload_n 0, 1) := dc_42 (by decide +kernel)
theorem dX35_takeOne_100 : decode cX35_takeOne 100 = .ok (.getfield 321, 3) := dc_180 (a := 1) (b := 65) (n := 321) (by decide +kernel)
theorem dX35_takeOne_103 : decode cX35_takeOne 103 = .ok (.ifCond .ne 15, 3) := dc_154 (a := 0) (b := 15) (v := 15) (by decide +kernel)
theorem dX35_takeOne_106 : decode cX35_takeOne 106 = .ok (.iload_n 3, 1) := dc_29 (by decide +kernel)
theorem dX35_takeOne_107 : decode cX35_takeOne 107 = .ok (.sipush 10000, 3) := dc_17 (a := 39) (b := 16) (v := 10000) (by decide +kernel)
theorem dX35_takeOne_110 : decode cX35_takeOne 110 = .ok (.if_icmp .le 8, 3) := dc_164 (a := 0) (b := 8) (v := 8) (by decide +kernel)
theorem dX35_takeOne_113 : decode cX35_takeOne 113 = .ok (.aload_n 0, 1) := dc_42 (by decide +kernel)
theorem dX35_takeOne_114 : decode cX35_takeOne 114 = .ok (.iconst 2, 1) := dc_5 (by decide +kernel)
theorem dX35_takeOne_115 : decode cX35_takeOne 115 = .ok (.invokevirtual 428, 3) := dc_182 (a := 1) (b := 172) (n := 428) (by decide +kernel)
theorem dX35_takeOne_118 : decode cX35_takeOne 118 = .ok (.aload_n 0, 1) := dc_42 (by decide +kernel)
theorem dX35_takeOne_119 : decode cX35_takeOne 119 = .ok (.getfield 321, 3) := dc_180 (a := 1) (b := 65) (n := 321) (by decide +kernel)
theorem dX35_takeOne_122 : decode cX35_takeOne 122 = .ok (.ifCond .le 4, 3) := dc_158 (a := 0) (b := 4) (v := 4) (by decide +kernel)
theorem dX35_takeOne_125 : decode cX35_takeOne 125 = .ok (.return_, 1) := dc_177 (by decide +kernel)
theorem dX35_takeOne_126 : decode cX35_takeOne 126 = .ok (.iload_n 2, 1) := dc_28 (by decide +kernel)
theorem dX35_takeOne_127 : decode cX35_takeOne 127 = .ok (.iconst 1, 1) := dc_4 (by decide +kernel)
theorem dX35_takeOne_128 : decode cX35_takeOne 128 = .ok (.invokestatic 493, 3) := dc_184 (a := 1) (b := 237) (n := 493) (by decide +kernel)
theorem dX35_takeOne_131 : decode cX35_takeOne 131 = .ok (.ifCond .eq 10, 3) := dc_153 (a := 0) (b := 10) (v := 10) (by decide +kernel)
theorem dX35_takeOne_134 : decode cX35_takeOne 134 = .ok (.iload 4, 2) := dc_21 (a := 4) (by decide +kernel)
theorem dX35_takeOne_136 : decode cX35_takeOne 136 = .ok (.iconst 1, 1) := dc_4 (by decide +kernel)
theorem dX35_takeOne_137 : decode cX35_takeOne 137 = .ok (.iadd, 1) := dc_96 (by decide +kernel)
theorem dX35_takeOne_138 : decode cX35_takeOne 138 = .ok (.goto 20, 3) := dc_167 (a := 0) (b := 20) (v := 20) (by decide +kernel)
theorem dX35_takeOne_141 : decode cX35_takeOne 141 = .ok (.iload_n 2, 1) := dc_28 (by decide +kernel)
theorem dX35_takeOne_142 : decode cX35_takeOne 142 = .ok (.iconst 2, 1) := dc_5 (by decide +kernel)
theorem dX35_takeOne_143 : decode cX35_takeOne 143 = .ok (.invokestatic 493, 3) := dc_184 (a := 1) (b := 237) (n := 493) (by decide +kernel)
theorem dX35_takeOne_146 : decode cX35_takeOne 146 = .ok (.ifCond .eq 10, 3) := dc_153 (a := 0) (b := 10) (v := 10) (by decide +kernel)
theorem dX35_takeOne_149 : decode cX35_takeOne 149 = .ok (.iload 4, 2) := dc_21 (a := 4) (by decide +kernel)
theorem dX35_takeOne_151 : decode cX35_takeOne 151 = .ok (.iconst 1, 1) := dc_4 (by decide +kernel)
theorem dX35_takeOne_152 : decode cX35_takeOne 152 = .ok (.isub, 1) := dc_100 (by decide +kernel)
theorem dX35_takeOne_153 : decode cX35_takeOne 153 = .ok (.goto 5, 3) := dc_167 (a := 0) (b := 5) (v := 5) (by decide +kernel)
theorem dX35_takeOne_156 : decode cX35_takeOne 156 = .ok (.iload 4, 2) := dc_21 (a := 4) (by decide +kernel)
theorem dX35_takeOne_158 : decode cX35_takeOne 158 = .ok (.istore 4, 2) := dc_54 (a := 4) (by decide +kernel)
theorem dX35_takeOne_160 : decode cX35_takeOne 160 = .ok (.iload 4, 2) := dc_21 (a := 4) (by decide +kernel)
theorem dX35_takeOne_162 : decode cX35_takeOne 162 = .ok (.ifCond .le (-76), 3) := dc_158 (a := 255) (b := 180) (v := -76) (by decide +kernel)
theorem dX35_takeOne_165 : decode cX35_takeOne 165 = .ok (.aload_n 0, 1) := dc_42 (by decide +kernel)
theorem dX35_takeOne_166 : decode cX35_takeOne 166 = .ok (.getfield 109, 3) := dc_180 (a := 0) (b := 109) (n := 109) (by decide +kernel)
theorem dX35_takeOne_169 : decode cX35_takeOne 169 = .ok (.sipush 11000, 3) := dc_17 (a := 42) (b := 248) (v := 11000) (by decide +kernel)
theorem dX35_takeOne_172 : decode cX35_takeOne 172 = .ok (.iload_n 1, 1) := dc_27 (by decide +kernel)
theorem dX35_takeOne_173 : decode cX35_takeOne 173 = .ok (.imul, 1) := dc_104 (by decide +kernel)
theorem dX35_takeOne_174 : decode cX35_takeOne 174 = .ok (.iload 5, 2) := dc_21 (a := 5) (by decide +kernel)
theorem dX35_takeOne_176 : decode cX35_takeOne 176 = .ok (.iadd, 1) := dc_96 (by decide +kernel)
theorem dX35_takeOne_177 : decode cX35_takeOne 177 = .ok (.iload_n 2, 1) := dc_28 (by decide +kernel)
theorem dX35_takeOne_178 : decode cX35_takeOne 178 = .ok (.iastore, 1) := dc_79 (by decide +kernel)
theorem dX35_takeOne_179 : decode cX35_takeOne 179 = .ok (.iinc 5 1, 3) := dc_132 (a := 5) (b := 1) (v := 1) (by decide +kernel)
theorem dX35_takeOne_182 : decode cX35_takeOne 182 = .ok (.goto (-96), 3) := dc_167 (a := 255) (b := 160) (v := -96) (by decide +kernel)
theorem dX35_takeOne_185 : decode cX35_takeOne 185 = .ok (.aload_n 0, 1) := dc_42 (by decide +kernel)
theorem dX35_takeOne_186 : decode cX35_takeOne 186 = .ok (.getfield 112, 3) := dc_180 (a := 0) (b := 112) (n := 112) (by decide +kernel)
theorem dX35_takeOne_189 : decode cX35_takeOne 189 = .ok (.iload_n 1, 1) := dc_27 (by decide +kernel)
theorem dX35_takeOne_190 : decode cX35_takeOne 190 = .ok (.iload 5, 2) := dc_21 (a := 5) (by decide +kernel)
theorem dX35_takeOne_192 : decode cX35_takeOne 192 = .ok (.iastore, 1) := dc_79 (by decide +kernel)
theorem dX35_takeOne_193 : decode cX35_takeOne 193 = .ok (.return_, 1) := dc_177 (by decide +kernel)
def fX35_takeOne_b158 (N : Nat) (k86 : Nat → Int32 → Int32 → Int32 → Int32 → eH → Option (Unit × eH)) (l0 : Nat) (l1 : Int32) (l2 : Int32) (l3 : Int32) (l5 : Int32) (s0 : Int32) (h : eH) : Option (Unit × eH) :=
  if s0 ≤ 0 then
    k86 l0 l1 l3 s0 l5 h
  else
    (g_A 34 h l0 39).bind fun a2 =>
    (q_V 100 h a2 (((11000 : Int32) * l1) + l5) (.int l2)).bind fun h4 =>
    k86 l0 l1 l3 s0 (l5 + (1 : Int32)) h4
theorem pX35_takeOne_b158 {w : eW} {d : Nat} (hd : 6 ≤ d + 1) {N : Nat} {k86 : Nat → Int32 → Int32 → Int32 → Int32 → eH → Option (Unit × eH)} (hk86 : ∀ l0 l1 l3 l4 l5 h q, k86 l0 l1 l3 l4 l5 h = some q → wp w (d + 1) YX35_takeOne 86 [some (.ref l0), some (.int l1), none, some (.int l3), some (.int l4), some (.int l5)] [] h (e_is (e_rn c_V q))) {l0 : Nat} {l1 : Int32} {l2 : Int32} {l3 : Int32} {l5 : Int32} {s0 : Int32} {h : eH} {q} (hf : fX35_takeOne_b158 N k86 l0 l1 l2 l3 l5 s0 h = some q) : wp w (d + 1) YX35_takeOne 158 [some (.ref l0), some (.int l1), some (.int l2), some (.int l3), none, some (.int l5)] [.int s0] h (e_is (e_rn c_V q)) := by
  unfold fX35_takeOne_b158 at hf
  refine w_istore dX35_takeOne_158 (by decide) (ls' := [some (.ref l0), some (.int l1), some (.int l2), some (.int l3), some (.int s0), some (.int l5)]) rfl ?_
  refine w_iload dX35_takeOne_160 rfl ?_
  refine w_if_le 86 dX35_takeOne_162 (by decide) (fun c1 => ?_) (fun c1 => ?_)
  · replace hf := (if_pos (show s0 ≤ 0 from c1)).symm.trans hf
    exact (hk86 _ _ _ _ _ _ _ hf).to ⟨rfl, rfl, rfl, rfl, rfl, trivial⟩
  · replace hf := (if_neg (show ¬ (s0 ≤ 0) from c1)).symm.trans hf
    refine w_aload_n dX35_takeOne_165 rfl rfl ?_
    obtain ⟨a2, b3, hf⟩ := Option.bind_eq_some_iff.mp hf
    refine GX35_109 b3 dX35_takeOne_166 rfl ?_
    refine w_sipush dX35_takeOne_169 (v := 11000) (by decide) ?_
    refine w_iload_n dX35_takeOne_172 rfl rfl ?_
    refine w_imul dX35_takeOne_173 ?_
    refine w_iload dX35_takeOne_174 rfl ?_
    refine w_iadd dX35_takeOne_176 ?_
    refine w_iload_n dX35_takeOne_177 rfl rfl ?_
    obtain ⟨h4, b5, hf⟩ := Option.bind_eq_some_iff.mp hf
    refine x_qI b5 dX35_takeOne_178 ?_
    refine w_iinc dX35_takeOne_179 (v := (l5 + (1 : Int32))) rfl rfl (by decide) (ls' := [some (.ref l0), some (.int l1), some (.int l2), some (.int l3), some (.int s0), some (.int (l5 + (1 : Int32)))]) rfl ?_
    refine w_goto 86 dX35_takeOne_182 (by decide) ?_
    exact (hk86 _ _ _ _ _ _ _ hf).to ⟨rfl, rfl, rfl, rfl, rfl, trivial⟩
def fX35_takeOne_b118 (N : Nat) (k86 : Nat → Int32 → Int32 → Int32 → Int32 → eH → Option (Unit × eH)) (l0 : Nat) (l1 : Int32) (l2 : Int32) (l3 : Int32) (l4 : Int32) (l5 : Int32) (h : eH) : Option (Unit × eH) :=
  (g_I 34 h l0 46).bind fun x1 =>
  if x1 ≤ 0 then
    (fX35_isOf l2 (1 : Int32) h).bind fun q4 =>
    if q4.1 = 0 then
      (fX35_isOf l2 (2 : Int32) q4.2).bind fun q6 =>
      if q6.1 = 0 then
        fX35_takeOne_b158 N k86 l0 l1 l2 l3 l5 l4 q6.2
      else
        fX35_takeOne_b158 N k86 l0 l1 l2 l3 l5 (l4 - (1 : Int32)) q6.2
    else
      fX35_takeOne_b158 N k86 l0 l1 l2 l3 l5 (l4 + (1 : Int32)) q4.2
  else
    some ((), h)
theorem pX35_takeOne_b118 {w : eW} {d : Nat} (hd : 6 ≤ d + 1) {N : Nat} {k86 : Nat → Int32 → Int32 → Int32 → Int32 → eH → Option (Unit × eH)} (hk86 : ∀ l0 l1 l3 l4 l5 h q, k86 l0 l1 l3 l4 l5 h = some q → wp w (d + 1) YX35_takeOne 86 [some (.ref l0), some (.int l1), none, some (.int l3), some (.int l4), some (.int l5)] [] h (e_is (e_rn c_V q))) {l0 : Nat} {l1 : Int32} {l2 : Int32} {l3 : Int32} {l4 : Int32} {l5 : Int32} {h : eH} {q} (hf : fX35_takeOne_b118 N k86 l0 l1 l2 l3 l4 l5 h = some q) : wp w (d + 1) YX35_takeOne 118 [some (.ref l0), some (.int l1), some (.int l2), some (.int l3), some (.int l4), some (.int l5)] [] h (e_is (e_rn c_V q)) := by
  unfold fX35_takeOne_b118 at hf
  refine w_aload_n dX35_takeOne_118 rfl rfl ?_
  obtain ⟨x1, b2, hf⟩ := Option.bind_eq_some_iff.mp hf
  refine GX35_321 b2 dX35_takeOne_119 rfl ?_
  refine w_if_le 126 dX35_takeOne_122 (by decide) (fun c3 => ?_) (fun c3 => ?_)
  · replace hf := (if_pos (show x1 ≤ 0 from c3)).symm.trans hf
    refine w_iload_n dX35_takeOne_126 rfl rfl ?_
    refine w_iconst dX35_takeOne_127 (v := 1) (by decide) ?_
    refine x_cnI hf (e_stS (Yc := YX35_isOf) (av := [.int l2, .int (1 : Int32)]) (st := []) dX35_takeOne_128 q5166 mX35_isOf) mX35_isOf.2.2.1 mX35_isOf.2.2.2.2.1 (Nat.le_of_ble_eq_true rfl) (Nat.le_of_ble_eq_true rfl) (fun q hq => pX35_isOf (by omega) hq) (fun q4 hf => ?_)
    refine w_if_eq 141 dX35_takeOne_131 (by decide) (fun c5 => ?_) (fun c5 => ?_)
    · replace hf := (if_pos (show q4.1 = 0 from c5)).symm.trans hf
      refine w_iload_n dX35_takeOne_141 rfl rfl ?_
      refine w_iconst dX35_takeOne_142 (v := 2) (by decide) ?_
      refine x_cnI hf (e_stS (Yc := YX35_isOf) (av := [.int l2, .int (2 : Int32)]) (st := []) dX35_takeOne_143 q5166 mX35_isOf) mX35_isOf.2.2.1 mX35_isOf.2.2.2.2.1 (Nat.le_of_ble_eq_true rfl) (Nat.le_of_ble_eq_true rfl) (fun q hq => pX35_isOf (by omega) hq) (fun q6 hf => ?_)
      refine w_if_eq 156 dX35_takeOne_146 (by decide) (fun c7 => ?_) (fun c7 => ?_)
      · replace hf := (if_pos (show q6.1 = 0 from c7)).symm.trans hf
        refine w_iload dX35_takeOne_156 rfl ?_
        exact (pX35_takeOne_b158 hd hk86 hf).to ⟨rfl, rfl, rfl, rfl, rfl, trivial⟩
      · replace hf := (if_neg (show ¬ (q6.1 = 0) from c7)).symm.trans hf
        refine w_iload dX35_takeOne_149 rfl ?_
        refine w_iconst dX35_takeOne_151 (v := 1) (by decide) ?_
        refine w_isub dX35_takeOne_152 ?_
        refine w_goto 158 dX35_takeOne_153 (by decide) ?_
        exact (pX35_takeOne_b158 hd hk86 hf).to ⟨rfl, rfl, rfl, rfl, rfl, trivial⟩
    · replace hf := (if_neg (show ¬ (q4.1 = 0) from c5)).symm.trans hf
      refine w_iload dX35_takeOne_134 rfl ?_
      refine w_iconst dX35_takeOne_136 (v := 1) (by decide) ?_
      refine w_iadd dX35_takeOne_137 ?_
      refine w_goto 158 dX35_takeOne_138 (by decide) ?_
      exact (pX35_takeOne_b158 hd hk86 hf).to ⟨rfl, rfl, rfl, rfl, rfl, trivial⟩
  · replace hf := (if_neg (show ¬ (x1 ≤ 0) from c3)).symm.trans hf
    cases hf
    exact w_vret dX35_takeOne_125 rfl rfl
def fX35_takeOne_b86 (N : Nat) : Nat → Nat → Int32 → Int32 → Int32 → Int32 → eH → Option (Unit × eH)
  | 0, _, _, _, _, _, _ => none
  | n + 1, l0, l1, l3, l4, l5, h =>
    if l4 ≤ 0 then
      (g_A 34 h l0 40).bind fun a2 =>
      (q_V 100 h a2 l1 (.int l5)).bind fun h4 =>
      some ((), h4)
    else
      (k_ok 34 h l0).bind fun _ =>
      (fX35_need N l0 h).bind fun q7 =>
      (g_I 34 q7.2 l0 46).bind fun x8 =>
      if ¬ x8 = 0 then
        fX35_takeOne_b118 N (fX35_takeOne_b86 N n) l0 l1 q7.1 (l3 + (1 : Int32)) l4 l5 q7.2
      else
        if (l3 + (1 : Int32)) ≤ (10000 : Int32) then
          fX35_takeOne_b118 N (fX35_takeOne_b86 N n) l0 l1 q7.1 (l3 + (1 : Int32)) l4 l5 q7.2
        else
          (k_ok 34 q7.2 l0).bind fun _ =>
          (fX35_fail l0 (2 : Int32) q7.2).bind fun q13 =>
          fX35_takeOne_b118 N (fX35_takeOne_b86 N n) l0 l1 q7.1 (l3 + (1 : Int32)) l4 l5 q13.2
theorem pX35_takeOne_b86 {w : eW} {d : Nat} (hd : 6 ≤ d + 1) {N : Nat} : ∀ (n : Nat) l0 l1 l3 l4 l5 h q, fX35_takeOne_b86 N n l0 l1 l3 l4 l5 h = some q → wp w (d + 1) YX35_takeOne 86 [some (.ref l0), some (.int l1), none, some (.int l3), some (.int l4), some (.int l5)] [] h (e_is (e_rn c_V q)) := by
  intro n
  induction n with
  | zero => intro l0 l1 l3 l4 l5 h q hf; simp [fX35_takeOne_b86] at hf
  | succ n ih =>
    intro l0 l1 l3 l4 l5 h q hf
    rw [fX35_takeOne_b86] at hf
    refine w_iload dX35_takeOne_86 rfl ?_
    refine w_if_le 185 dX35_takeOne_88 (by decide) (fun c1 => ?_) (fun c1 => ?_)
    · replace hf := (if_pos (show l4 ≤ 0 from c1)).symm.trans hf
      refine w_aload_n dX35_takeOne_185 rfl rfl ?_
      obtain ⟨a2, b3, hf⟩ := Option.bind_eq_some_iff.mp hf
      refine GX35_112 b3 dX35_takeOne_186 rfl ?_
      refine w_iload_n dX35_takeOne_189 rfl rfl ?_
      refine w_iload dX35_takeOne_190 rfl ?_
      obtain ⟨h4, b5, hf⟩ := Option.bind_eq_some_iff.mp hf
      refine x_qI b5 dX35_takeOne_192 ?_
      cases hf
      exact w_vret dX35_takeOne_193 rfl rfl
    · replace hf := (if_neg (show ¬ (l4 ≤ 0) from c1)).symm.trans hf
      refine w_aload_n dX35_takeOne_91 rfl rfl ?_
      obtain ⟨_, b6, hf⟩ := Option.bind_eq_some_iff.mp hf
      refine x_cnI hf (e_stV (Yc := YX35_need) (ci := 34) (av := []) (st := []) dX35_takeOne_92 q5154 mX35_need rfl (k_ok_some b6).1 (k_ok_some b6).2) mX35_need.2.2.1 mX35_need.2.2.2.2.1 (Nat.le_of_ble_eq_true rfl) (Nat.le_of_ble_eq_true rfl) (fun q hq => pX35_need (by omega) hq) (fun q7 hf => ?_)
      refine w_istore_n dX35_takeOne_95 rfl (by decide) (ls' := [some (.ref l0), some (.int l1), some (.int q7.1), some (.int l3), some (.int l4), some (.int l5)]) rfl ?_
      refine w_iinc dX35_takeOne_96 (v := (l3 + (1 : Int32))) rfl rfl (by decide) (ls' := [some (.ref l0), some (.int l1), some (.int q7.1), some (.int (l3 + (1 : Int32))), some (.int l4), some (.int l5)]) rfl ?_
      refine w_aload_n dX35_takeOne_99 rfl rfl ?_
      obtain ⟨x8, b9, hf⟩ := Option.bind_eq_some_iff.mp hf
      refine GX35_321 b9 dX35_takeOne_100 rfl ?_
      refine w_if_ne 118 dX35_takeOne_103 (by decide) (fun c10 => ?_) (fun c10 => ?_)
      · replace hf := (if_pos (show ¬ x8 = 0 from c10)).symm.trans hf
        exact (pX35_takeOne_b118 hd ih hf).to ⟨rfl, rfl, rfl, rfl, rfl, rfl, trivial⟩
      · replace hf := (if_neg (show ¬ (¬ x8 = 0) from (fun z => z c10))).symm.trans hf
        refine w_iload_n dX35_takeOne_106 rfl rfl ?_
        refine w_sipush dX35_takeOne_107 (v := 10000) (by decide) ?_
        refine w_icmp_le 118 dX35_takeOne_110 (by decide) (fun c11 => ?_) (fun c11 => ?_)
        · replace hf := (if_pos (show (l3 + (1 : Int32)) ≤ (10000 : Int32) from c11)).symm.trans hf
          exact (pX35_takeOne_b118 hd ih hf).to ⟨rfl, rfl, rfl, rfl, rfl, rfl, trivial⟩
        · replace hf := (if_neg (show ¬ ((l3 + (1 : Int32)) ≤ (10000 : Int32)) from c11)).symm.trans hf
          refine w_aload_n dX35_takeOne_113 rfl rfl ?_
          refine w_iconst dX35_takeOne_114 (v := 2) (by decide) ?_
          obtain ⟨_, b12, hf⟩ := Option.bind_eq_some_iff.mp hf
          refine x_cnV hf (e_stV (Yc := YX35_fail) (ci := 34) (av := [.int (2 : Int32)]) (st := []) dX35_takeOne_115 q5109 mX35_fail rfl (k_ok_some b12).1 (k_ok_some b12).2) mX35_fail.2.2.1 mX35_fail.2.2.2.2.1 (Nat.le_of_ble_eq_true rfl) (Nat.le_of_ble_eq_true rfl) (fun q hq => pX35_fail (by omega) hq) (fun q13 hf => ?_)
          exact (pX35_takeOne_b118 hd ih hf).to ⟨rfl, rfl, rfl, rfl, rfl, rfl, trivial⟩
def fX35_takeOne_b5 (N : Nat) : Nat → Nat → Int32 → Int32 → eH → Option (Unit × eH)
  | 0, _, _, _, _ => none
  | n + 1, l0, l1, l2, h =>
    (fX35_isOf l2 (10 : Int32) h).bind fun q1 =>
    if q1.1 = 0 then
      (g_A 34 q1.2 l0 40).bind fun a3 =>
      (q_V 100 q1.2 a3 l1 (.int (0 : Int32))).bind fun h5 =>
      (g_I 34 h5 l0 46).bind fun x7 =>
      if x7 ≤ 0 then
        (fX35_isOf l2 (2 : Int32) h5).bind fun q10 =>
        if q10.1 = 0 then
          (fX35_isOf l2 (1 : Int32) q10.2).bind fun q12 =>
          if ¬ q12.1 = 0 then
            fX35_takeOne_b86 N N l0 l1 (1 : Int32) (1 : Int32) (0 : Int32) q12.2
          else
            (g_A 34 q12.2 l0 39).bind fun a14 =>
            (q_V 100 q12.2 a14 ((11000 : Int32) * l1) (.int l2)).bind fun h16 =>
            (g_A 34 h16 l0 40).bind fun a18 =>
            (q_V 100 h16 a18 l1 (.int (1 : Int32))).bind fun h20 =>
            some ((), h20)
        else
          (k_ok 34 q10.2 l0).bind fun _ =>
          (fX35_fail l0 (5 : Int32) q10.2).bind fun q23 =>
          some ((), q23.2)
      else
        some ((), h5)
    else
      (k_ok 34 q1.2 l0).bind fun _ =>
      (fX35_need N l0 q1.2).bind fun q25 =>
      fX35_takeOne_b5 N n l0 l1 q25.1 q25.2
theorem pX35_takeOne_b5 {w : eW} {d : Nat} (hd : 6 ≤ d + 1) {N : Nat} : ∀ (n : Nat) l0 l1 l2 h q, fX35_takeOne_b5 N n l0 l1 l2 h = some q → wp w (d + 1) YX35_takeOne 5 [some (.ref l0), some (.int l1), some (.int l2), none, none, none] [] h (e_is (e_rn c_V q)) := by
  intro n
  induction n with
  | zero => intro l0 l1 l2 h q hf; simp [fX35_takeOne_b5] at hf
  | succ n ih =>
    intro l0 l1 l2 h q hf
    rw [fX35_takeOne_b5] at hf
    refine w_iload_n dX35_takeOne_5 rfl rfl ?_
    refine w_bipush dX35_takeOne_6 (v := 10) (by decide) ?_
    refine x_cnI hf (e_stS (Yc := YX35_isOf) (av := [.int l2, .int (10 : Int32)]) (st := []) dX35_takeOne_8 q5166 mX35_isOf) mX35_isOf.2.2.1 mX35_isOf.2.2.2.2.1 (Nat.le_of_ble_eq_true rfl) (Nat.le_of_ble_eq_true rfl) (fun q hq => pX35_isOf (by omega) hq) (fun q1 hf => ?_)
    refine w_if_eq 22 dX35_takeOne_11 (by decide) (fun c2 => ?_) (fun c2 => ?_)
    · replace hf := (if_pos (show q1.1 = 0 from c2)).symm.trans hf
      refine w_aload_n dX35_takeOne_22 rfl rfl ?_
      obtain ⟨a3, b4, hf⟩ := Option.bind_eq_some_iff.mp hf
      refine GX35_112 b4 dX35_takeOne_23 rfl ?_
      refine w_iload_n dX35_takeOne_26 rfl rfl ?_
      refine w_iconst dX35_takeOne_27 (v := 0) (by decide) ?_
      obtain ⟨h5, b6, hf⟩ := Option.bind_eq_some_iff.mp hf
      refine x_qI b6 dX35_takeOne_28 ?_
      refine w_aload_n dX35_takeOne_29 rfl rfl ?_
      obtain ⟨x7, b8, hf⟩ := Option.bind_eq_some_iff.mp hf
      refine GX35_321 b8 dX35_takeOne_30 rfl ?_
      refine w_if_le 37 dX35_takeOne_33 (by decide) (fun c9 => ?_) (fun c9 => ?_)
      · replace hf := (if_pos (show x7 ≤ 0 from c9)).symm.trans hf
        refine w_iload_n dX35_takeOne_37 rfl rfl ?_
        refine w_iconst dX35_takeOne_38 (v := 2) (by decide) ?_
        refine x_cnI hf (e_stS (Yc := YX35_isOf) (av := [.int l2, .int (2 : Int32)]) (st := []) dX35_takeOne_39 q5166 mX35_isOf) mX35_isOf.2.2.1 mX35_isOf.2.2.2.2.1 (Nat.le_of_ble_eq_true rfl) (Nat.le_of_ble_eq_true rfl) (fun q hq => pX35_isOf (by omega) hq) (fun q10 hf => ?_)
        refine w_if_eq 51 dX35_takeOne_42 (by decide) (fun c11 => ?_) (fun c11 => ?_)
        · replace hf := (if_pos (show q10.1 = 0 from c11)).symm.trans hf
          refine w_iload_n dX35_takeOne_51 rfl rfl ?_
          refine w_iconst dX35_takeOne_52 (v := 1) (by decide) ?_
          refine x_cnI hf (e_stS (Yc := YX35_isOf) (av := [.int l2, .int (1 : Int32)]) (st := []) dX35_takeOne_53 q5166 mX35_isOf) mX35_isOf.2.2.1 mX35_isOf.2.2.2.2.1 (Nat.le_of_ble_eq_true rfl) (Nat.le_of_ble_eq_true rfl) (fun q hq => pX35_isOf (by omega) hq) (fun q12 hf => ?_)
          refine w_if_ne 78 dX35_takeOne_56 (by decide) (fun c13 => ?_) (fun c13 => ?_)
          · replace hf := (if_pos (show ¬ q12.1 = 0 from c13)).symm.trans hf
            refine w_iconst dX35_takeOne_78 (v := 1) (by decide) ?_
            refine w_istore_n dX35_takeOne_79 rfl (by decide) (ls' := [some (.ref l0), some (.int l1), some (.int l2), some (.int (1 : Int32)), none, none]) rfl ?_
            refine w_iconst dX35_takeOne_80 (v := 1) (by decide) ?_
            refine w_istore dX35_takeOne_81 (by decide) (ls' := [some (.ref l0), some (.int l1), some (.int l2), some (.int (1 : Int32)), some (.int (1 : Int32)), none]) rfl ?_
            refine w_iconst dX35_takeOne_83 (v := 0) (by decide) ?_
            refine w_istore dX35_takeOne_84 (by decide) (ls' := [some (.ref l0), some (.int l1), some (.int l2), some (.int (1 : Int32)), some (.int (1 : Int32)), some (.int (0 : Int32))]) rfl ?_
            exact (pX35_takeOne_b86 hd N _ _ _ _ _ _ _ hf).to ⟨rfl, rfl, rfl, rfl, rfl, trivial⟩
          · replace hf := (if_neg (show ¬ (¬ q12.1 = 0) from (fun z => z c13))).symm.trans hf
            refine w_aload_n dX35_takeOne_59 rfl rfl ?_
            obtain ⟨a14, b15, hf⟩ := Option.bind_eq_some_iff.mp hf
            refine GX35_109 b15 dX35_takeOne_60 rfl ?_
            refine w_sipush dX35_takeOne_63 (v := 11000) (by decide) ?_
            refine w_iload_n dX35_takeOne_66 rfl rfl ?_
            refine w_imul dX35_takeOne_67 ?_
            refine w_iload_n dX35_takeOne_68 rfl rfl ?_
            obtain ⟨h16, b17, hf⟩ := Option.bind_eq_some_iff.mp hf
            refine x_qI b17 dX35_takeOne_69 ?_
            refine w_aload_n dX35_takeOne_70 rfl rfl ?_
            obtain ⟨a18, b19, hf⟩ := Option.bind_eq_some_iff.mp hf
            refine GX35_112 b19 dX35_takeOne_71 rfl ?_
            refine w_iload_n dX35_takeOne_74 rfl rfl ?_
            refine w_iconst dX35_takeOne_75 (v := 1) (by decide) ?_
            obtain ⟨h20, b21, hf⟩ := Option.bind_eq_some_iff.mp hf
            refine x_qI b21 dX35_takeOne_76 ?_
            cases hf
            exact w_vret dX35_takeOne_77 rfl rfl
        · replace hf := (if_neg (show ¬ (q10.1 = 0) from c11)).symm.trans hf
          refine w_aload_n dX35_takeOne_45 rfl rfl ?_
          refine w_iconst dX35_takeOne_46 (v := 5) (by decide) ?_
          obtain ⟨_, b22, hf⟩ := Option.bind_eq_some_iff.mp hf
          refine x_cnV hf (e_stV (Yc := YX35_fail) (ci := 34) (av := [.int (5 : Int32)]) (st := []) dX35_takeOne_47 q5109 mX35_fail rfl (k_ok_some b22).1 (k_ok_some b22).2) mX35_fail.2.2.1 mX35_fail.2.2.2.2.1 (Nat.le_of_ble_eq_true rfl) (Nat.le_of_ble_eq_true rfl) (fun q hq => pX35_fail (by omega) hq) (fun q23 hf => ?_)
          cases hf
          exact w_vret dX35_takeOne_50 rfl rfl
      · replace hf := (if_neg (show ¬ (x7 ≤ 0) from c9)).symm.trans hf
        cases hf
        exact w_vret dX35_takeOne_36 rfl rfl
    · replace hf := (if_neg (show ¬ (q1.1 = 0) from c2)).symm.trans hf
      refine w_aload_n dX35_takeOne_14 rfl rfl ?_
      obtain ⟨_, b24, hf⟩ := Option.bind_eq_some_iff.mp hf
      refine x_cnI hf (e_stV (Yc := YX35_need) (ci := 34) (av := []) (st := []) dX35_takeOne_15 q5154 mX35_need rfl (k_ok_some b24).1 (k_ok_some b24).2) mX35_need.2.2.1 mX35_need.2.2.2.2.1 (Nat.le_of_ble_eq_true rfl) (Nat.le_of_ble_eq_true rfl) (fun q hq => pX35_need (by omega) hq) (fun q25 hf => ?_)
      refine w_istore_n dX35_takeOne_18 rfl (by decide) (ls' := [some (.ref l0), some (.int l1), some (.int q25.1), none, none, none]) rfl ?_
      refine w_goto 5 dX35_takeOne_19 (by decide) ?_
      exact (ih _ _ _ _ _ hf).to ⟨rfl, rfl, rfl, trivial⟩
def fX35_takeOne (N : Nat) (this : Nat) (p0 : Int32) (h : eH) : Option (Unit × eH) :=
  (k_ok 34 h this).bind fun _ =>
  (fX35_need N this h).bind fun q2 =>
  fX35_takeOne_b5 N N this p0 q2.1 q2.2
theorem pX35_takeOne {w : eW} {d : Nat} (hd : 6 ≤ d) {N : Nat} {this : Nat} {p0 : Int32} {h : eH} {q} (hf : fX35_takeOne N this p0 h = some q) : wm w d YX35_takeOne [.ref this, .int p0] h (e_is (e_rn c_V q)) := by
  obtain ⟨d, rfl⟩ : ∃ e, d = e + 1 := ⟨d - 1, by omega⟩
  show wp w (d + 1) YX35_takeOne 0 [some (.ref this), some (.int p0), none, none, none, none] [] h _
  unfold fX35_takeOne at hf
  refine w_aload_n dX35_takeOne_0 rfl rfl ?_
  obtain ⟨_, b1, hf⟩ := Option.bind_eq_some_iff.mp hf
  refine x_cnI hf (e_stV (Yc := YX35_need) (ci := 34) (av := []) (st := []) dX35_takeOne_1 q5154 mX35_need rfl (k_ok_some b1).1 (k_ok_some b1).2) mX35_need.2.2.1 mX35_need.2.2.2.2.1 (Nat.le_of_ble_eq_true rfl) (Nat.le_of_ble_eq_true rfl) (fun q hq => pX35_need (by omega) hq) (fun q2 hf => ?_)
  refine w_istore_n dX35_takeOne_4 rfl (by decide) (ls' := [some (.ref this), some (.int p0), some (.int q2.1), none, none, none]) rfl ?_
  exact (pX35_takeOne_b5 hd N _ _ _ _ _ hf).to ⟨rfl, rfl, rfl, trivial⟩
abbrev cX35_takeUpTo : ByteArray := prog_37_method_55_code
def yX35_takeUpTo : MethodName := ⟨RX35, "takeUpTo", "(III)V"⟩
def YX35_takeUpTo : eY := (yX35_takeUpTo, cX35_takeUpTo, 10, none, [])
theorem mX35_takeUpTo : e_mv YX35_takeUpTo RX35 3 := ⟨q5171, qs255, q5172, by decide, by decide +kernel, (e_sig (by decide +kernel))⟩
theorem dX35_takeUpTo_0 : decode cX35_takeUpTo 0 = .ok (.iload_n 3, 1) := dc_29 (by decide +kernel)
theorem dX35_takeUpTo_1 : decode cX35_takeUpTo 1 = .ok (.iload_n 2, 1) := dc_28 (by decide +kernel)
theorem dX35_takeUpTo_2 : decode cX35_takeUpTo 2 = .ok (.isub, 1) := dc_100 (by decide +kernel)
theorem dX35_takeUpTo_3 : decode cX35_takeUpTo 3 = .ok (.istore 4, 2) := dc_54 (a := 4) (by decide +kernel)
theorem dX35_takeUpTo_5 : decode cX35_takeUpTo 5 = .ok (.iconst 0, 1) := dc_3 (by decide +kernel)
theorem dX35_takeUpTo_6 : decode cX35_takeUpTo 6 = .ok (.istore 5, 2) := dc_54 (a := 5) (by decide +kernel)
theorem dX35_takeUpTo_8 : decode cX35_takeUpTo 8 = .ok (.iconst 0, 1) := dc_3 (by decide +kernel)
theorem dX35_takeUpTo_9 : decode cX35_takeUpTo 9 = .ok (.istore 6, 2) := dc_54 (a := 6) (by decide +kernel)
theorem dX35_takeUpTo_11 : decode cX35_takeUpTo 11 = .ok (.iconst 0, 1) := dc_3 (by decide +kernel)
theorem dX35_takeUpTo_12 : decode cX35_takeUpTo 12 = .ok (.istore 7, 2) := dc_54 (a := 7) (by decide +kernel)
theorem dX35_takeUpTo_14 : decode cX35_takeUpTo 14 = .ok (.iload 7, 2) := dc_21 (a := 7) (by decide +kernel)
theorem dX35_takeUpTo_16 : decode cX35_takeUpTo 16 = .ok (.ifCond .ne 194, 3) := dc_154 (a := 0) (b := 194) (v := 194) (by decide +kernel)
theorem dX35_takeUpTo_19 : decode cX35_takeUpTo 19 = .ok (.aload_n 0, 1) := dc_42 (by decide +kernel)
theorem dX35_takeUpTo_20 : decode cX35_takeUpTo 20 = .ok (.invokevirtual 506, 3) := dc_182 (a := 1) (b := 250) (n := 506) (by decide +kernel)
theorem dX35_takeUpTo_23 : decode cX35_takeUpTo 23 = .ok (.istore 8, 2) := dc_54 (a := 8) (by decide +kernel)
theorem dX35_takeUpTo_25 : decode cX35_takeUpTo 25 = .ok (.aload_n 0, 1) := dc_42 (by decide +kernel)
theorem dX35_takeUpTo_26 : decode cX35_takeUpTo 26 = .ok (.getfield 321, 3) := dc_180 (a := 1) (b := 65) (n := 321) (by decide +kernel)
theorem dX35_takeUpTo_29 : decode cX35_takeUpTo 29 = .ok (.ifCond .ne 16, 3) := dc_154 (a := 0) (b := 16) (v := 16) (by decide +kernel)
theorem dX35_takeUpTo_32 : decode cX35_takeUpTo 32 = .ok (.iload 5, 2) := dc_21 (a := 5) (by decide +kernel)
theorem dX35_takeUpTo_34 : decode cX35_takeUpTo 34 = .ok (.sipush 10000, 3) := dc_17 (a := 39) (b := 16) (v := 10000) (by decide +kernel)
theorem dX35_takeUpTo_37 : decode cX35_takeUpTo 37 = .ok (.if_icmp .ne 8, 3) := dc_160 (a := 0) (b := 8) (v := 8) (by decide +kernel)
theorem dX35_takeUpTo_40 : decode cX35_takeUpTo 40 = .ok (.aload_n 0, 1) := dc_42 (by decide +kernel)
theorem dX35_takeUpTo_41 : decode cX35_takeUpTo 41 = .ok (.iconst 2, 1) := dc_5 (by decide +kernel)
theorem dX35_takeUpTo_42 : decode cX35_takeUpTo 42 = .ok (.invokevirtual 428, 3) := dc_182 (a := 1) (b := 172) (n := 428) (by decide +kernel)
theorem dX35_takeUpTo_45 : decode cX35_takeUpTo 45 = .ok (.aload_n 0, 1) := dc_42 (by decide +kernel)
theorem dX35_takeUpTo_46 : decode cX35_takeUpTo 46 = .ok (.getfield 321, 3) := dc_180 (a := 1) (b := 65) (n := 321) (by decide +kernel)
theorem dX35_takeUpTo_49 : decode cX35_takeUpTo 49 = .ok (.ifCond .ne 22, 3) := dc_154 (a := 0) (b := 22) (v := 22) (by decide +kernel)
theorem dX35_takeUpTo_52 : decode cX35_takeUpTo 52 = .ok (.iload 8, 2) := dc_21 (a := 8) (by decide +kernel)
theorem dX35_takeUpTo_54 : decode cX35_takeUpTo 54 = .ok (.iconst 2, 1) := dc_5 (by decide +kernel)
theorem dX35_takeUpTo_55 : decode cX35_takeUpTo 55 = .ok (.invokestatic 493, 3) := dc_184 (a := 1) (b := 237) (n := 493) (by decide +kernel)
theorem dX35_takeUpTo_58 : decode cX35_takeUpTo 58 = .ok (.ifCond .eq 13, 3) := dc_153 (a := 0) (b := 13) (v := 13) (by decide +kernel)
theorem dX35_takeUpTo_61 : decode cX35_takeUpTo 61 = .ok (.iload 6, 2) := dc_21 (a := 6) (by decide +kernel)
theorem dX35_takeUpTo_63 : decode cX35_takeUpTo 63 = .ok (.ifCond .ne 8, 3) := dc_154 (a := 0) (b := 8) (v := 8) (by decide +kernel)
theorem dX35_takeUpTo_66 : decode cX35_takeUpTo 66 = .ok (.aload_n 0, 1) := dc_42 (by decide +kernel)
theorem dX35_takeUpTo_67 : decode cX35_takeUpTo 67 = .ok (.iconst 5, 1) := dc_8 (by decide +kernel)
theorem dX35_takeUpTo_68 : decode cX35_takeUpTo 68 = .ok (.invokevirtual 428, 3) := dc_182 (a := 1) (b := 172) (n := 428) (by decide +kernel)
theorem dX35_takeUpTo_71 : decode cX35_takeUpTo 71 = .ok (.aload_n 0, 1) := dc_42 (by decide +kernel)
theorem dX35_takeUpTo_72 : decode cX35_takeUpTo 72 = .ok (.getfield 321, 3) := dc_180 (a := 1) (b := 65) (n := 321) (by decide +kernel)
theorem dX35_takeUpTo_75 : decode cX35_takeUpTo 75 = .ok (.ifCond .le 4, 3) := dc_158 (a := 0) (b := 4) (v := 4) (by decide +kernel)
theorem dX35_takeUpTo_78 : decode cX35_takeUpTo 78 = .ok (.return_, 1) := dc_177 (by decide +kernel)
theorem dX35_takeUpTo_79 : decode cX35_takeUpTo 79 = .ok (.iload 8, 2) := dc_21 (a := 8) (by decide +kernel)
theorem dX35_takeUpTo_81 : decode cX35_takeUpTo 81 = .ok (.iconst 1, 1) := dc_4 (by decide +kernel)
theorem dX35_takeUpTo_82 : decode cX35_takeUpTo 82 = .ok (.invokestatic 493, 3) := dc_184 (a := 1) (b := 237) (n := 493) (by decide +kernel)
theorem dX35_takeUpTo_85 : decode cX35_takeUpTo 85 = .ok (.ifCond .eq 10, 3) := dc_153 (a := 0) (b := 10) (v := 10) (by decide +kernel)
theorem dX35_takeUpTo_88 : decode cX35_takeUpTo 88 = .ok (.iload 6, 2) := dc_21 (a := 6) (by decide +kernel)
theorem dX35_takeUpTo_90 : decode cX35_takeUpTo 90 = .ok (.iconst 1, 1) := dc_4 (by decide +kernel)
theorem dX35_takeUpTo_91 : decode cX35_takeUpTo 91 = .ok (.iadd, 1) := dc_96 (by decide +kernel)
theorem dX35_takeUpTo_92 : decode cX35_takeUpTo 92 = .ok (.goto 21, 3) := dc_167 (a := 0) (b := 21) (v := 21) (by decide +kernel)
theorem dX35_takeUpTo_95 : decode cX35_takeUpTo 95 = .ok (.iload 8, 2) := dc_21 (a := 8) (by decide +kernel)
theorem dX35_takeUpTo_97 : decode cX35_takeUpTo 97 = .ok (.iconst 2, 1) := dc_5 (by decide +kernel)
theorem dX35_takeUpTo_98 : decode cX35_takeUpTo 98 = .ok (.invokestatic 493, 3) := dc_184 (a := 1) (b := 237) (n := 493) (by decide +kernel)
theorem dX35_takeUpTo_101 : decode cX35_takeUpTo 101 = .ok (.ifCond .eq 10, 3) := dc_153 (a := 0) (b := 10) (v := 10) (by decide +kernel)
theorem dX35_takeUpTo_104 : decode cX35_takeUpTo 104 = .ok (.iload 6, 2) := dc_21 (a := 6) (by decide +kernel)
theorem dX35_takeUpTo_106 : decode cX35_takeUpTo 106 = .ok (.iconst 1, 1) := dc_4 (by decide +kernel)
theorem dX35_takeUpTo_107 : decode cX35_takeUpTo 107 = .ok (.isub, 1) := dc_100 (by decide +kernel)
theorem dX35_takeUpTo_108 : decode cX35_takeUpTo 108 = .ok (.goto 5, 3) := dc_167 (a := 0) (b := 5) (v := 5) (by decide +kernel)
theorem dX35_takeUpTo_111 : decode cX35_takeUpTo 111 = .ok (.iload 6, 2) := dc_21 (a := 6) (by decide +kernel)
theorem dX35_takeUpTo_113 : decode cX35_takeUpTo 113 = .ok (.istore 6, 2) := dc_54 (a := 6) (by decide +kernel)
theorem dX35_takeUpTo_115 : decode cX35_takeUpTo 115 = .ok (.aload_n 0, 1) := dc_42 (by decide +kernel)
theorem dX35_takeUpTo_116 : decode cX35_takeUpTo 116 = .ok (.getfield 109, 3) := dc_180 (a := 0) (b := 109) (n := 109) (by decide +kernel)
theorem dX35_takeUpTo_119 : decode cX35_takeUpTo 119 = .ok (.sipush 11000, 3) := dc_17 (a := 42) (b := 248) (v := 11000) (by decide +kernel)
theorem dX35_takeUpTo_122 : decode cX35_takeUpTo 122 = .ok (.iload_n 1, 1) := dc_27 (by decide +kernel)
theorem dX35_takeUpTo_123 : decode cX35_takeUpTo 123 = .ok (.imul, 1) := dc_104 (by decide +kernel)
theorem dX35_takeUpTo_124 : decode cX35_takeUpTo 124 = .ok (.iload 5, 2) := dc_21 (a := 5) (by decide +kernel)
theorem dX35_takeUpTo_126 : decode cX35_takeUpTo 126 = .ok (.iadd, 1) := dc_96 (by decide +kernel)
theorem dX35_takeUpTo_127 : decode cX35_takeUpTo 127 = .ok (.iload 8, 2) := dc_21 (a := 8) (by decide +kernel)
theorem dX35_takeUpTo_129 : decode cX35_takeUpTo 129 = .ok (.iastore, 1) := dc_79 (by decide +kernel)
theorem dX35_takeUpTo_130 : decode cX35_takeUpTo 130 = .ok (.iinc 5 1, 3) := dc_132 (a := 5) (b := 1) (v := 1) (by decide +kernel)
theorem dX35_takeUpTo_133 : decode cX35_takeUpTo 133 = .ok (.iload 6, 2) := dc_21 (a := 6) (by decide +kernel)
theorem dX35_takeUpTo_135 : decode cX35_takeUpTo 135 = .ok (.ifCond .ne 14, 3) := dc_154 (a := 0) (b := 14) (v := 14) (by decide +kernel)
theorem dX35_takeUpTo_138 : decode cX35_takeUpTo 138 = .ok (.iload 5, 2) := dc_21 (a := 5) (by decide +kernel)
theorem dX35_takeUpTo_140 : decode cX35_takeUpTo 140 = .ok (.iload 4, 2) := dc_21 (a := 4) (by decide +kernel)
theorem dX35_takeUpTo_142 : decode cX35_takeUpTo 142 = .ok (.if_icmp .lt 7, 3) := dc_161 (a := 0) (b := 7) (v := 7) (by decide +kernel)
theorem dX35_takeUpTo_145 : decode cX35_takeUpTo 145 = .ok (.iconst 1, 1) := dc_4 (by decide +kernel)
theorem dX35_takeUpTo_146 : decode cX35_takeUpTo 146 = .ok (.goto 4, 3) := dc_167 (a := 0) (b := 4) (v := 4) (by decide +kernel)
theorem dX35_takeUpTo_149 : decode cX35_takeUpTo 149 = .ok (.iconst 0, 1) := dc_3 (by decide +kernel)
theorem dX35_takeUpTo_150 : decode cX35_takeUpTo 150 = .ok (.istore 7, 2) := dc_54 (a := 7) (by decide +kernel)
theorem dX35_takeUpTo_152 : decode cX35_takeUpTo 152 = .ok (.iconst 0, 1) := dc_3 (by decide +kernel)
theorem dX35_takeUpTo_153 : decode cX35_takeUpTo 153 = .ok (.istore 9, 2) := dc_54 (a := 9) (by decide +kernel)
theorem dX35_takeUpTo_155 : decode cX35_takeUpTo 155 = .ok (.iload 9, 2) := dc_21 (a := 9) (by decide +kernel)
theorem dX35_takeUpTo_157 : decode cX35_takeUpTo 157 = .ok (.iload 4, 2) := dc_21 (a := 4) (by decide +kernel)
theorem dX35_takeUpTo_159 : decode cX35_takeUpTo 159 = .ok (.if_icmp .ge 48, 3) := dc_162 (a := 0) (b := 48) (v := 48) (by decide +kernel)
theorem dX35_takeUpTo_162 : decode cX35_takeUpTo 162 = .ok (.iload 7, 2) := dc_21 (a := 7) (by decide +kernel)
theorem dX35_takeUpTo_164 : decode cX35_takeUpTo 164 = .ok (.ifCond .eq 43, 3) := dc_153 (a := 0) (b := 43) (v := 43) (by decide +kernel)
theorem dX35_takeUpTo_167 : decode cX35_takeUpTo 167 = .ok (.aload_n 0, 1) := dc_42 (by decide +kernel)
theorem dX35_takeUpTo_168 : decode cX35_takeUpTo 168 = .ok (.aload_n 0, 1) := dc_42 (by decide +kernel)
theorem dX35_takeUpTo_169 : decode cX35_takeUpTo 169 = .ok (.getfield 109, 3) := dc_180 (a := 0) (b := 109) (n := 109) (by decide +kernel)
theorem dX35_takeUpTo_172 : decode cX35_takeUpTo 172 = .ok (.sipush 11000, 3) := dc_17 (a := 42) (b := 248) (v := 11000) (by decide +kernel)
theorem dX35_takeUpTo_175 : decode cX35_takeUpTo 175 = .ok (.iload_n 1, 1) := dc_27 (by decide +kernel)
theorem dX35_takeUpTo_176 : decode cX35_takeUpTo 176 = .ok (.imul, 1) := dc_104 (by decide +kernel)
theorem dX35_takeUpTo_177 : decode cX35_takeUpTo 177 = .ok (.iload 5, 2) := dc_21 (a := 5) (by decide +kernel)
theorem dX35_takeUpTo_179 : decode cX35_takeUpTo 179 = .ok (.iadd, 1) := dc_96 (by decide +kernel)
theorem dX35_takeUpTo_180 : decode cX35_takeUpTo 180 = .ok (.iload 4, 2) := dc_21 (a := 4) (by decide +kernel)
theorem dX35_takeUpTo_182 : decode cX35_takeUpTo 182 = .ok (.isub, 1) := dc_100 (by decide +kernel)
theorem dX35_takeUpTo_183 : decode cX35_takeUpTo 183 = .ok (.iload 9, 2) := dc_21 (a := 9) (by decide +kernel)
theorem dX35_takeUpTo_185 : decode cX35_takeUpTo 185 = .ok (.iadd, 1) := dc_96 (by decide +kernel)
theorem dX35_takeUpTo_186 : decode cX35_takeUpTo 186 = .ok (.iaload, 1) := dc_46 (by decide +kernel)
theorem dX35_takeUpTo_187 : decode cX35_takeUpTo 187 = .ok (.aload_n 0, 1) := dc_42 (by decide +kernel)
theorem dX35_takeUpTo_188 : decode cX35_takeUpTo 188 = .ok (.getfield 102, 3) := dc_180 (a := 0) (b := 102) (n := 102) (by decide +kernel)
theorem dX35_takeUpTo_191 : decode cX35_takeUpTo 191 = .ok (.iload_n 2, 1) := dc_28 (by decide +kernel)
theorem dX35_takeUpTo_192 : decode cX35_takeUpTo 192 = .ok (.iload 9, 2) := dc_21 (a := 9) (by decide +kernel)
theorem dX35_takeUpTo_194 : decode cX35_takeUpTo 194 = .ok (.iadd, 1) := dc_96 (by decide +kernel)
theorem dX35_takeUpTo_195 : decode cX35_takeUpTo 195 = .ok (.iaload, 1) := dc_46 (by decide +kernel)
theorem dX35_takeUpTo_196 : decode cX35_takeUpTo 196 = .ok (.invokevirtual 568, 3) := dc_182 (a := 2) (b := 56) (n := 568) (by decide +kernel)
theorem dX35_takeUpTo_199 : decode cX35_takeUpTo 199 = .ok (.istore 7, 2) := dc_54 (a := 7) (by decide +kernel)
theorem dX35_takeUpTo_201 : decode cX35_takeUpTo 201 = .ok (.iinc 9 1, 3) := dc_132 (a := 9) (b := 1) (v := 1) (by decide +kernel)
theorem dX35_takeUpTo_204 : decode cX35_takeUpTo 204 = .ok (.goto (-49), 3) := dc_167 (a := 255) (b := 207) (v := -49) (by decide +kernel)
theorem dX35_takeUpTo_207 : decode cX35_takeUpTo 207 = .ok (.goto (-193), 3) := dc_167 (a := 255) (b := 63) (v := -193) (by decide +kernel)
theorem dX35_takeUpTo_210 : decode cX35_takeUpTo 210 = .ok (.aload_n 0, 1) := dc_42 (by decide +kernel)
theorem dX35_takeUpTo_211 : decode cX35_takeUpTo 211 = .ok (.getfield 112, 3) := dc_180 (a := 0) (b := 112) (n := 112) (by decide +kernel)
theorem dX35_takeUpTo_214 : decode cX35_takeUpTo 214 = .ok (.iload_n 1, 1) := dc_27 (by decide +kernel)
theorem dX35_takeUpTo_215 : decode cX35_takeUpTo 215 = .ok (.iload 5, 2) := dc_21 (a := 5) (by decide +kernel)
theorem dX35_takeUpTo_217 : decode cX35_takeUpTo 217 = .ok (.iload 4, 2) := dc_21 (a := 4) (by decide +kernel)
theorem dX35_takeUpTo_219 : decode cX35_takeUpTo 219 = .ok (.isub, 1) := dc_100 (by decide +kernel)
theorem dX35_takeUpTo_220 : decode cX35_takeUpTo 220 = .ok (.iastore, 1) := dc_79 (by decide +kernel)
theorem dX35_takeUpTo_221 : decode cX35_takeUpTo 221 = .ok (.aload_n 0, 1) := dc_42 (by decide +kernel)
theorem dX35_takeUpTo_222 : decode cX35_takeUpTo 222 = .ok (.iload_n 1, 1) := dc_27 (by decide +kernel)
theorem dX35_takeUpTo_223 : decode cX35_takeUpTo 223 = .ok (.invokevirtual 581, 3) := dc_182 (a := 2) (b := 69) (n := 581) (by decide +kernel)
theorem dX35_takeUpTo_226 : decode cX35_takeUpTo 226 = .ok (.return_, 1) := dc_177 (by decide +kernel)
theorem GX35_102 {w : eW} {d : Nat} {Y : eY} {pc : Nat} {ls : eL} {st : List Value} {h : eH} {Q : eO → eH → Prop} {a : Nat} {x : Nat} (hf : g_A 34 h a 36 = some x) (hd : decode Y.2.1 pc = .ok (.getfield 102, 3)) (hY : Y.1.cls = RX35) (kk : wp w d Y (pc + 3) ls (.ref x :: st) h Q) : wp w d Y pc ls (.ref a :: st) h Q := x_gA (ci := 34) (k := 36) hf hd rfl (by decide) (by rw [hY]; exact q4538) kk
def fX35_takeUpTo_b207 (N : Nat) (k14 : Nat → Int32 → Int32 → Int32 → Int32 → Int32 → Int32 → eH → Option (Unit × eH)) (l0 : Nat) (l1 : Int32) (l2 : Int32) (l4 : Int32) (l5 : Int32) (l6 : Int32) (l7 : Int32) (h : eH) : Option (Unit × eH) :=
  k14 l0 l1 l2 l4 l5 l6 l7 h
theorem pX35_takeUpTo_b207 {w : eW} {d : Nat} (hd : 6 ≤ d + 1) {N : Nat} {k14 : Nat → Int32 → Int32 → Int32 → Int32 → Int32 → Int32 → eH → Option (Unit × eH)} (hk14 : ∀ l0 l1 l2 l4 l5 l6 l7 h q, k14 l0 l1 l2 l4 l5 l6 l7 h = some q → wp w (d + 1) YX35_takeUpTo 14 [some (.ref l0), some (.int l1), some (.int l2), none, some (.int l4), some (.int l5), some (.int l6), some (.int l7), none, none] [] h (e_is (e_rn c_V q))) {l0 : Nat} {l1 : Int32} {l2 : Int32} {l4 : Int32} {l5 : Int32} {l6 : Int32} {l7 : Int32} {h : eH} {q} (hf : fX35_takeUpTo_b207 N k14 l0 l1 l2 l4 l5 l6 l7 h = some q) : wp w (d + 1) YX35_takeUpTo 207 [some (.ref l0), some (.int l1), some (.int l2), none, some (.int l4), some (.int l5), some (.int l6), some (.int l7), none, none] [] h (e_is (e_rn c_V q)) := by
  unfold fX35_takeUpTo_b207 at hf
  refine w_goto 14 dX35_takeUpTo_207 (by decide) ?_
  exact (hk14 _ _ _ _ _ _ _ _ _ hf).to ⟨rfl, rfl, rfl, rfl, rfl, rfl, rfl, trivial⟩
def fX35_takeUpTo_b155 (N : Nat) (k14 : Nat → Int32 → Int32 → Int32 → Int32 → Int32 → Int32 → eH → Option (Unit × eH)) : Nat → Nat → Int32 → Int32 → Int32 → Int32 → Int32 → Int32 → Int32 → eH → Option (Unit × eH)
  | 0, _, _, _, _, _, _, _, _, _ => none
  | n + 1, l0, l1, l2, l4, l5, l6, l7, l9, h =>
    if l4 ≤ l9 then
      fX35_takeUpTo_b207 N k14 l0 l1 l2 l4 l5 l6 l7 h
    else
      if l7 = 0 then
        fX35_takeUpTo_b207 N k14 l0 l1 l2 l4 l5 l6 l7 h
      else
        (g_A 34 h l0 39).bind fun a3 =>
        (r_I 100 h a3 (((((11000 : Int32) * l1) + l5) - l4) + l9)).bind fun x5 =>
        (g_A 34 h l0 36).bind fun a7 =>
        (r_I 100 h a7 (l2 + l9)).bind fun x9 =>
        (k_ok 34 h l0).bind fun _ =>
        (fX35_isSame l0 x5 x9 h).bind fun q12 =>
        fX35_takeUpTo_b155 N k14 n l0 l1 l2 l4 l5 l6 q12.1 (l9 + (1 : Int32)) q12.2
theorem pX35_takeUpTo_b155 {w : eW} {d : Nat} (hd : 6 ≤ d + 1) {N : Nat} {k14 : Nat → Int32 → Int32 → Int32 → Int32 → Int32 → Int32 → eH → Option (Unit × eH)} (hk14 : ∀ l0 l1 l2 l4 l5 l6 l7 h q, k14 l0 l1 l2 l4 l5 l6 l7 h = some q → wp w (d + 1) YX35_takeUpTo 14 [some (.ref l0), some (.int l1), some (.int l2), none, some (.int l4), some (.int l5), some (.int l6), some (.int l7), none, none] [] h (e_is (e_rn c_V q))) : ∀ (n : Nat) l0 l1 l2 l4 l5 l6 l7 l9 h q, fX35_takeUpTo_b155 N k14 n l0 l1 l2 l4 l5 l6 l7 l9 h = some q → wp w (d + 1) YX35_takeUpTo 155 [some (.ref l0), some (.int l1), some (.int l2), none, some (.int l4), some (.int l5), some (.int l6), some (.int l7), none, some (.int l9)] [] h (e_is (e_rn c_V q)) := by
  intro n
  induction n with
  | zero => intro l0 l1 l2 l4 l5 l6 l7 l9 h q hf; simp [fX35_takeUpTo_b155] at hf
  | succ n ih =>
    intro l0 l1 l2 l4 l5 l6 l7 l9 h q hf
    rw [fX35_takeUpTo_b155] at hf
    refine w_iload dX35_takeUpTo_155 rfl ?_
    refine w_iload dX35_takeUpTo_157 rfl ?_
    refine w_icmp_ge 207 dX35_takeUpTo_159 (by decide) (fun c1 => ?_) (fun c1 => ?_)
    · replace hf := (if_pos (show l4 ≤ l9 from c1)).symm.trans hf
      exact (pX35_takeUpTo_b207 hd hk14 hf).to ⟨rfl, rfl, rfl, rfl, rfl, rfl, rfl, trivial⟩
    · replace hf := (if_neg (show ¬ (l4 ≤ l9) from c1)).symm.trans hf
      refine w_iload dX35_takeUpTo_162 rfl ?_
      refine w_if_eq 207 dX35_takeUpTo_164 (by decide) (fun c2 => ?_) (fun c2 => ?_)
      · replace hf := (if_pos (show l7 = 0 from c2)).symm.trans hf
        exact (pX35_takeUpTo_b207 hd hk14 hf).to ⟨rfl, rfl, rfl, rfl, rfl, rfl, rfl, trivial⟩
      · replace hf := (if_neg (show ¬ (l7 = 0) from c2)).symm.trans hf
        refine w_aload_n dX35_takeUpTo_167 rfl rfl ?_
        refine w_aload_n dX35_takeUpTo_168 rfl rfl ?_
        obtain ⟨a3, b4, hf⟩ := Option.bind_eq_some_iff.mp hf
        refine GX35_109 b4 dX35_takeUpTo_169 rfl ?_
        refine w_sipush dX35_takeUpTo_172 (v := 11000) (by decide) ?_
        refine w_iload_n dX35_takeUpTo_175 rfl rfl ?_
        refine w_imul dX35_takeUpTo_176 ?_
        refine w_iload dX35_takeUpTo_177 rfl ?_
        refine w_iadd dX35_takeUpTo_179 ?_
        refine w_iload dX35_takeUpTo_180 rfl ?_
        refine w_isub dX35_takeUpTo_182 ?_
        refine w_iload dX35_takeUpTo_183 rfl ?_
        refine w_iadd dX35_takeUpTo_185 ?_
        obtain ⟨x5, b6, hf⟩ := Option.bind_eq_some_iff.mp hf
        refine x_rI b6 dX35_takeUpTo_186 ?_
        refine w_aload_n dX35_takeUpTo_187 rfl rfl ?_
        obtain ⟨a7, b8, hf⟩ := Option.bind_eq_some_iff.mp hf
        refine GX35_102 b8 dX35_takeUpTo_188 rfl ?_
        refine w_iload_n dX35_takeUpTo_191 rfl rfl ?_
        refine w_iload dX35_takeUpTo_192 rfl ?_
        refine w_iadd dX35_takeUpTo_194 ?_
        obtain ⟨x9, b10, hf⟩ := Option.bind_eq_some_iff.mp hf
        refine x_rI b10 dX35_takeUpTo_195 ?_
        obtain ⟨_, b11, hf⟩ := Option.bind_eq_some_iff.mp hf
        refine x_cnI hf (e_stV (Yc := YX35_isSame) (ci := 34) (av := [.int x5, .int x9]) (st := []) dX35_takeUpTo_196 q5158 mX35_isSame rfl (k_ok_some b11).1 (k_ok_some b11).2) mX35_isSame.2.2.1 mX35_isSame.2.2.2.2.1 (Nat.le_of_ble_eq_true rfl) (Nat.le_of_ble_eq_true rfl) (fun q hq => pX35_isSame (by omega) hq) (fun q12 hf => ?_)
        refine w_istore dX35_takeUpTo_199 (by decide) (ls' := [some (.ref l0), some (.int l1), some (.int l2), none, some (.int l4), some (.int l5), some (.int l6), some (.int q12.1), none, some (.int l9)]) rfl ?_
        refine w_iinc dX35_takeUpTo_201 (v := (l9 + (1 : Int32))) rfl rfl (by decide) (ls' := [some (.ref l0), some (.int l1), some (.int l2), none, some (.int l4), some (.int l5), some (.int l6), some (.int q12.1), none, some (.int (l9 + (1 : Int32)))]) rfl ?_
        refine w_goto 155 dX35_takeUpTo_204 (by decide) ?_
        exact (ih _ _ _ _ _ _ _ _ _ _ hf).to ⟨rfl, rfl, rfl, rfl, rfl, rfl, rfl, rfl, trivial⟩
def fX35_takeUpTo_b150 (N : Nat) (k14 : Nat → Int32 → Int32 → Int32 → Int32 → Int32 → Int32 → eH → Option (Unit × eH)) (l0 : Nat) (l1 : Int32) (l2 : Int32) (l4 : Int32) (l5 : Int32) (l6 : Int32) (s0 : Int32) (h : eH) : Option (Unit × eH) :=
  fX35_takeUpTo_b155 N k14 N l0 l1 l2 l4 l5 l6 s0 (0 : Int32) h
theorem pX35_takeUpTo_b150 {w : eW} {d : Nat} (hd : 6 ≤ d + 1) {N : Nat} {k14 : Nat → Int32 → Int32 → Int32 → Int32 → Int32 → Int32 → eH → Option (Unit × eH)} (hk14 : ∀ l0 l1 l2 l4 l5 l6 l7 h q, k14 l0 l1 l2 l4 l5 l6 l7 h = some q → wp w (d + 1) YX35_takeUpTo 14 [some (.ref l0), some (.int l1), some (.int l2), none, some (.int l4), some (.int l5), some (.int l6), some (.int l7), none, none] [] h (e_is (e_rn c_V q))) {l0 : Nat} {l1 : Int32} {l2 : Int32} {l4 : Int32} {l5 : Int32} {l6 : Int32} {s0 : Int32} {h : eH} {q} (hf : fX35_takeUpTo_b150 N k14 l0 l1 l2 l4 l5 l6 s0 h = some q) : wp w (d + 1) YX35_takeUpTo 150 [some (.ref l0), some (.int l1), some (.int l2), none, some (.int l4), some (.int l5), some (.int l6), none, none, none] [.int s0] h (e_is (e_rn c_V q)) := by
  unfold fX35_takeUpTo_b150 at hf
  refine w_istore dX35_takeUpTo_150 (by decide) (ls' := [some (.ref l0), some (.int l1), some (.int l2), none, some (.int l4), some (.int l5), some (.int l6), some (.int s0), none, none]) rfl ?_
  refine w_iconst dX35_takeUpTo_152 (v := 0) (by decide) ?_
  refine w_istore dX35_takeUpTo_153 (by decide) (ls' := [some (.ref l0), some (.int l1), some (.int l2), none, some (.int l4), some (.int l5), some (.int l6), some (.int s0), none, some (.int (0 : Int32))]) rfl ?_
  exact (pX35_takeUpTo_b155 hd hk14 N _ _ _ _ _ _ _ _ _ _ hf).to ⟨rfl, rfl, rfl, rfl, rfl, rfl, rfl, rfl, trivial⟩
def fX35_takeUpTo_b149 (N : Nat) (k14 : Nat → Int32 → Int32 → Int32 → Int32 → Int32 → Int32 → eH → Option (Unit × eH)) (l0 : Nat) (l1 : Int32) (l2 : Int32) (l4 : Int32) (l5 : Int32) (l6 : Int32) (h : eH) : Option (Unit × eH) :=
  fX35_takeUpTo_b150 N k14 l0 l1 l2 l4 l5 l6 (0 : Int32) h
theorem pX35_takeUpTo_b149 {w : eW} {d : Nat} (hd : 6 ≤ d + 1) {N : Nat} {k14 : Nat → Int32 → Int32 → Int32 → Int32 → Int32 → Int32 → eH → Option (Unit × eH)} (hk14 : ∀ l0 l1 l2 l4 l5 l6 l7 h q, k14 l0 l1 l2 l4 l5 l6 l7 h = some q → wp w (d + 1) YX35_takeUpTo 14 [some (.ref l0), some (.int l1), some (.int l2), none, some (.int l4), some (.int l5), some (.int l6), some (.int l7), none, none] [] h (e_is (e_rn c_V q))) {l0 : Nat} {l1 : Int32} {l2 : Int32} {l4 : Int32} {l5 : Int32} {l6 : Int32} {h : eH} {q} (hf : fX35_takeUpTo_b149 N k14 l0 l1 l2 l4 l5 l6 h = some q) : wp w (d + 1) YX35_takeUpTo 149 [some (.ref l0), some (.int l1), some (.int l2), none, some (.int l4), some (.int l5), some (.int l6), none, none, none] [] h (e_is (e_rn c_V q)) := by
  unfold fX35_takeUpTo_b149 at hf
  refine w_iconst dX35_takeUpTo_149 (v := 0) (by decide) ?_
  exact (pX35_takeUpTo_b150 hd hk14 hf).to ⟨rfl, rfl, rfl, rfl, rfl, rfl, trivial⟩
def fX35_takeUpTo_b113 (N : Nat) (k14 : Nat → Int32 → Int32 → Int32 → Int32 → Int32 → Int32 → eH → Option (Unit × eH)) (l0 : Nat) (l1 : Int32) (l2 : Int32) (l4 : Int32) (l5 : Int32) (l8 : Int32) (s0 : Int32) (h : eH) : Option (Unit × eH) :=
  (g_A 34 h l0 39).bind fun a1 =>
  (q_V 100 h a1 (((11000 : Int32) * l1) + l5) (.int l8)).bind fun h3 =>
  if ¬ s0 = 0 then
    fX35_takeUpTo_b149 N k14 l0 l1 l2 l4 (l5 + (1 : Int32)) s0 h3
  else
    if (l5 + (1 : Int32)) < l4 then
      fX35_takeUpTo_b149 N k14 l0 l1 l2 l4 (l5 + (1 : Int32)) s0 h3
    else
      fX35_takeUpTo_b150 N k14 l0 l1 l2 l4 (l5 + (1 : Int32)) s0 (1 : Int32) h3
theorem pX35_takeUpTo_b113 {w : eW} {d : Nat} (hd : 6 ≤ d + 1) {N : Nat} {k14 : Nat → Int32 → Int32 → Int32 → Int32 → Int32 → Int32 → eH → Option (Unit × eH)} (hk14 : ∀ l0 l1 l2 l4 l5 l6 l7 h q, k14 l0 l1 l2 l4 l5 l6 l7 h = some q → wp w (d + 1) YX35_takeUpTo 14 [some (.ref l0), some (.int l1), some (.int l2), none, some (.int l4), some (.int l5), some (.int l6), some (.int l7), none, none] [] h (e_is (e_rn c_V q))) {l0 : Nat} {l1 : Int32} {l2 : Int32} {l4 : Int32} {l5 : Int32} {l8 : Int32} {s0 : Int32} {h : eH} {q} (hf : fX35_takeUpTo_b113 N k14 l0 l1 l2 l4 l5 l8 s0 h = some q) : wp w (d + 1) YX35_takeUpTo 113 [some (.ref l0), some (.int l1), some (.int l2), none, some (.int l4), some (.int l5), none, none, some (.int l8), none] [.int s0] h (e_is (e_rn c_V q)) := by
  unfold fX35_takeUpTo_b113 at hf
  refine w_istore dX35_takeUpTo_113 (by decide) (ls' := [some (.ref l0), some (.int l1), some (.int l2), none, some (.int l4), some (.int l5), some (.int s0), none, some (.int l8), none]) rfl ?_
  refine w_aload_n dX35_takeUpTo_115 rfl rfl ?_
  obtain ⟨a1, b2, hf⟩ := Option.bind_eq_some_iff.mp hf
  refine GX35_109 b2 dX35_takeUpTo_116 rfl ?_
  refine w_sipush dX35_takeUpTo_119 (v := 11000) (by decide) ?_
  refine w_iload_n dX35_takeUpTo_122 rfl rfl ?_
  refine w_imul dX35_takeUpTo_123 ?_
  refine w_iload dX35_takeUpTo_124 rfl ?_
  refine w_iadd dX35_takeUpTo_126 ?_
  refine w_iload dX35_takeUpTo_127 rfl ?_
  obtain ⟨h3, b4, hf⟩ := Option.bind_eq_some_iff.mp hf
  refine x_qI b4 dX35_takeUpTo_129 ?_
  refine w_iinc dX35_takeUpTo_130 (v := (l5 + (1 : Int32))) rfl rfl (by decide) (ls' := [some (.ref l0), some (.int l1), some (.int l2), none, some (.int l4), some (.int (l5 + (1 : Int32))), some (.int s0), none, some (.int l8), none]) rfl ?_
  refine w_iload dX35_takeUpTo_133 rfl ?_
  refine w_if_ne 149 dX35_takeUpTo_135 (by decide) (fun c5 => ?_) (fun c5 => ?_)
  · replace hf := (if_pos (show ¬ s0 = 0 from c5)).symm.trans hf
    exact (pX35_takeUpTo_b149 hd hk14 hf).to ⟨rfl, rfl, rfl, rfl, rfl, rfl, trivial⟩
  · replace hf := (if_neg (show ¬ (¬ s0 = 0) from (fun z => z c5))).symm.trans hf
    refine w_iload dX35_takeUpTo_138 rfl ?_
    refine w_iload dX35_takeUpTo_140 rfl ?_
    refine w_icmp_lt 149 dX35_takeUpTo_142 (by decide) (fun c6 => ?_) (fun c6 => ?_)
    · replace hf := (if_pos (show (l5 + (1 : Int32)) < l4 from c6)).symm.trans hf
      exact (pX35_takeUpTo_b149 hd hk14 hf).to ⟨rfl, rfl, rfl, rfl, rfl, rfl, trivial⟩
    · replace hf := (if_neg (show ¬ ((l5 + (1 : Int32)) < l4) from c6)).symm.trans hf
      refine w_iconst dX35_takeUpTo_145 (v := 1) (by decide) ?_
      refine w_goto 150 dX35_takeUpTo_146 (by decide) ?_
      exact (pX35_takeUpTo_b150 hd hk14 hf).to ⟨rfl, rfl, rfl, rfl, rfl, rfl, trivial⟩
def fX35_takeUpTo_b71 (N : Nat) (k14 : Nat → Int32 → Int32 → Int32 → Int32 → Int32 → Int32 → eH → Option (Unit × eH)) (l0 : Nat) (l1 : Int32) (l2 : Int32) (l4 : Int32) (l5 : Int32) (l6 : Int32) (l8 : Int32) (h : eH) : Option (Unit × eH) :=
  (g_I 34 h l0 46).bind fun x1 =>
  if x1 ≤ 0 then
    (fX35_isOf l8 (1 : Int32) h).bind fun q4 =>
    if q4.1 = 0 then
      (fX35_isOf l8 (2 : Int32) q4.2).bind fun q6 =>
      if q6.1 = 0 then
        fX35_takeUpTo_b113 N k14 l0 l1 l2 l4 l5 l8 l6 q6.2
      else
        fX35_takeUpTo_b113 N k14 l0 l1 l2 l4 l5 l8 (l6 - (1 : Int32)) q6.2
    else
      fX35_takeUpTo_b113 N k14 l0 l1 l2 l4 l5 l8 (l6 + (1 : Int32)) q4.2
  else
    some ((), h)
theorem pX35_takeUpTo_b71 {w : eW} {d : Nat} (hd : 6 ≤ d + 1) {N : Nat} {k14 : Nat → Int32 → Int32 → Int32 → Int32 → Int32 → Int32 → eH → Option (Unit × eH)} (hk14 : ∀ l0 l1 l2 l4 l5 l6 l7 h q, k14 l0 l1 l2 l4 l5 l6 l7 h = some q → wp w (d + 1) YX35_takeUpTo 14 [some (.ref l0), some (.int l1), some (.int l2), none, some (.int l4), some (.int l5), some (.int l6), some (.int l7), none, none] [] h (e_is (e_rn c_V q))) {l0 : Nat} {l1 : Int32} {l2 : Int32} {l4 : Int32} {l5 : Int32} {l6 : Int32} {l8 : Int32} {h : eH} {q} (hf : fX35_takeUpTo_b71 N k14 l0 l1 l2 l4 l5 l6 l8 h = some q) : wp w (d + 1) YX35_takeUpTo 71 [some (.ref l0), some (.int l1), some (.int l2), none, some (.int l4), some (.int l5), some (.int l6), none, some (.int l8), none] [] h (e_is (e_rn c_V q)) := by
  unfold fX35_takeUpTo_b71 at hf
  refine w_aload_n dX35_takeUpTo_71 rfl rfl ?_
  obtain ⟨x1, b2, hf⟩ := Option.bind_eq_some_iff.mp hf
  refine GX35_321 b2 dX35_takeUpTo_72 rfl ?_
  refine w_if_le 79 dX35_takeUpTo_75 (by decide) (fun c3 => ?_) (fun c3 => ?_)
  · replace hf := (if_pos (show x1 ≤ 0 from c3)).symm.trans hf
    refine w_iload dX35_takeUpTo_79 rfl ?_
    refine w_iconst dX35_takeUpTo_81 (v := 1) (by decide) ?_
    refine x_cnI hf (e_stS (Yc := YX35_isOf) (av := [.int l8, .int (1 : Int32)]) (st := []) dX35_takeUpTo_82 q5166 mX35_isOf) mX35_isOf.2.2.1 mX35_isOf.2.2.2.2.1 (Nat.le_of_ble_eq_true rfl) (Nat.le_of_ble_eq_true rfl) (fun q hq => pX35_isOf (by omega) hq) (fun q4 hf => ?_)
    refine w_if_eq 95 dX35_takeUpTo_85 (by decide) (fun c5 => ?_) (fun c5 => ?_)
    · replace hf := (if_pos (show q4.1 = 0 from c5)).symm.trans hf
      refine w_iload dX35_takeUpTo_95 rfl ?_
      refine w_iconst dX35_takeUpTo_97 (v := 2) (by decide) ?_
      refine x_cnI hf (e_stS (Yc := YX35_isOf) (av := [.int l8, .int (2 : Int32)]) (st := []) dX35_takeUpTo_98 q5166 mX35_isOf) mX35_isOf.2.2.1 mX35_isOf.2.2.2.2.1 (Nat.le_of_ble_eq_true rfl) (Nat.le_of_ble_eq_true rfl) (fun q hq => pX35_isOf (by omega) hq) (fun q6 hf => ?_)
      refine w_if_eq 111 dX35_takeUpTo_101 (by decide) (fun c7 => ?_) (fun c7 => ?_)
      · replace hf := (if_pos (show q6.1 = 0 from c7)).symm.trans hf
        refine w_iload dX35_takeUpTo_111 rfl ?_
        exact (pX35_takeUpTo_b113 hd hk14 hf).to ⟨rfl, rfl, rfl, rfl, rfl, rfl, trivial⟩
      · replace hf := (if_neg (show ¬ (q6.1 = 0) from c7)).symm.trans hf
        refine w_iload dX35_takeUpTo_104 rfl ?_
        refine w_iconst dX35_takeUpTo_106 (v := 1) (by decide) ?_
        refine w_isub dX35_takeUpTo_107 ?_
        refine w_goto 113 dX35_takeUpTo_108 (by decide) ?_
        exact (pX35_takeUpTo_b113 hd hk14 hf).to ⟨rfl, rfl, rfl, rfl, rfl, rfl, trivial⟩
    · replace hf := (if_neg (show ¬ (q4.1 = 0) from c5)).symm.trans hf
      refine w_iload dX35_takeUpTo_88 rfl ?_
      refine w_iconst dX35_takeUpTo_90 (v := 1) (by decide) ?_
      refine w_iadd dX35_takeUpTo_91 ?_
      refine w_goto 113 dX35_takeUpTo_92 (by decide) ?_
      exact (pX35_takeUpTo_b113 hd hk14 hf).to ⟨rfl, rfl, rfl, rfl, rfl, rfl, trivial⟩
  · replace hf := (if_neg (show ¬ (x1 ≤ 0) from c3)).symm.trans hf
    cases hf
    exact w_vret dX35_takeUpTo_78 rfl rfl
def fX35_takeUpTo_b45 (N : Nat) (k14 : Nat → Int32 → Int32 → Int32 → Int32 → Int32 → Int32 → eH → Option (Unit × eH)) (l0 : Nat) (l1 : Int32) (l2 : Int32) (l4 : Int32) (l5 : Int32) (l6 : Int32) (l8 : Int32) (h : eH) : Option (Unit × eH) :=
  (g_I 34 h l0 46).bind fun x1 =>
  if ¬ x1 = 0 then
    fX35_takeUpTo_b71 N k14 l0 l1 l2 l4 l5 l6 l8 h
  else
    (fX35_isOf l8 (2 : Int32) h).bind fun q4 =>
    if q4.1 = 0 then
      fX35_takeUpTo_b71 N k14 l0 l1 l2 l4 l5 l6 l8 q4.2
    else
      if ¬ l6 = 0 then
        fX35_takeUpTo_b71 N k14 l0 l1 l2 l4 l5 l6 l8 q4.2
      else
        (k_ok 34 q4.2 l0).bind fun _ =>
        (fX35_fail l0 (5 : Int32) q4.2).bind fun q8 =>
        fX35_takeUpTo_b71 N k14 l0 l1 l2 l4 l5 l6 l8 q8.2
theorem pX35_takeUpTo_b45 {w : eW} {d : Nat} (hd : 6 ≤ d + 1) {N : Nat} {k14 : Nat → Int32 → Int32 → Int32 → Int32 → Int32 → Int32 → eH → Option (Unit × eH)} (hk14 : ∀ l0 l1 l2 l4 l5 l6 l7 h q, k14 l0 l1 l2 l4 l5 l6 l7 h = some q → wp w (d + 1) YX35_takeUpTo 14 [some (.ref l0), some (.int l1), some (.int l2), none, some (.int l4), some (.int l5), some (.int l6), some (.int l7), none, none] [] h (e_is (e_rn c_V q))) {l0 : Nat} {l1 : Int32} {l2 : Int32} {l4 : Int32} {l5 : Int32} {l6 : Int32} {l8 : Int32} {h : eH} {q} (hf : fX35_takeUpTo_b45 N k14 l0 l1 l2 l4 l5 l6 l8 h = some q) : wp w (d + 1) YX35_takeUpTo 45 [some (.ref l0), some (.int l1), some (.int l2), none, some (.int l4), some (.int l5), some (.int l6), none, some (.int l8), none] [] h (e_is (e_rn c_V q)) := by
  unfold fX35_takeUpTo_b45 at hf
  refine w_aload_n dX35_takeUpTo_45 rfl rfl ?_
  obtain ⟨x1, b2, hf⟩ := Option.bind_eq_some_iff.mp hf
  refine GX35_321 b2 dX35_takeUpTo_46 rfl ?_
  refine w_if_ne 71 dX35_takeUpTo_49 (by decide) (fun c3 => ?_) (fun c3 => ?_)
  · replace hf := (if_pos (show ¬ x1 = 0 from c3)).symm.trans hf
    exact (pX35_takeUpTo_b71 hd hk14 hf).to ⟨rfl, rfl, rfl, rfl, rfl, rfl, rfl, trivial⟩
  · replace hf := (if_neg (show ¬ (¬ x1 = 0) from (fun z => z c3))).symm.trans hf
    refine w_iload dX35_takeUpTo_52 rfl ?_
    refine w_iconst dX35_takeUpTo_54 (v := 2) (by decide) ?_
    refine x_cnI hf (e_stS (Yc := YX35_isOf) (av := [.int l8, .int (2 : Int32)]) (st := []) dX35_takeUpTo_55 q5166 mX35_isOf) mX35_isOf.2.2.1 mX35_isOf.2.2.2.2.1 (Nat.le_of_ble_eq_true rfl) (Nat.le_of_ble_eq_true rfl) (fun q hq => pX35_isOf (by omega) hq) (fun q4 hf => ?_)
    refine w_if_eq 71 dX35_takeUpTo_58 (by decide) (fun c5 => ?_) (fun c5 => ?_)
    · replace hf := (if_pos (show q4.1 = 0 from c5)).symm.trans hf
      exact (pX35_takeUpTo_b71 hd hk14 hf).to ⟨rfl, rfl, rfl, rfl, rfl, rfl, rfl, trivial⟩
    · replace hf := (if_neg (show ¬ (q4.1 = 0) from c5)).symm.trans hf
      refine w_iload dX35_takeUpTo_61 rfl ?_
      refine w_if_ne 71 dX35_takeUpTo_63 (by decide) (fun c6 => ?_) (fun c6 => ?_)
      · replace hf := (if_pos (show ¬ l6 = 0 from c6)).symm.trans hf
        exact (pX35_takeUpTo_b71 hd hk14 hf).to ⟨rfl, rfl, rfl, rfl, rfl, rfl, rfl, trivial⟩
      · replace hf := (if_neg (show ¬ (¬ l6 = 0) from (fun z => z c6))).symm.trans hf
        refine w_aload_n dX35_takeUpTo_66 rfl rfl ?_
        refine w_iconst dX35_takeUpTo_67 (v := 5) (by decide) ?_
        obtain ⟨_, b7, hf⟩ := Option.bind_eq_some_iff.mp hf
        refine x_cnV hf (e_stV (Yc := YX35_fail) (ci := 34) (av := [.int (5 : Int32)]) (st := []) dX35_takeUpTo_68 q5109 mX35_fail rfl (k_ok_some b7).1 (k_ok_some b7).2) mX35_fail.2.2.1 mX35_fail.2.2.2.2.1 (Nat.le_of_ble_eq_true rfl) (Nat.le_of_ble_eq_true rfl) (fun q hq => pX35_fail (by omega) hq) (fun q8 hf => ?_)
        exact (pX35_takeUpTo_b71 hd hk14 hf).to ⟨rfl, rfl, rfl, rfl, rfl, rfl, rfl, trivial⟩
def fX35_takeUpTo_b14 (N : Nat) : Nat → Nat → Int32 → Int32 → Int32 → Int32 → Int32 → Int32 → eH → Option (Unit × eH)
  | 0, _, _, _, _, _, _, _, _ => none
  | n + 1, l0, l1, l2, l4, l5, l6, l7, h =>
    if ¬ l7 = 0 then
      (g_A 34 h l0 40).bind fun a2 =>
      (q_V 100 h a2 l1 (.int (l5 - l4))).bind fun h4 =>
      (k_ok 34 h4 l0).bind fun _ =>
      (fX35_bareOf N l0 l1 h4).bind fun q7 =>
      some ((), q7.2)
    else
      (k_ok 34 h l0).bind fun _ =>
      (fX35_need N l0 h).bind fun q9 =>
      (g_I 34 q9.2 l0 46).bind fun x10 =>
      if ¬ x10 = 0 then
        fX35_takeUpTo_b45 N (fX35_takeUpTo_b14 N n) l0 l1 l2 l4 l5 l6 q9.1 q9.2
      else
        if ¬ l5 = (10000 : Int32) then
          fX35_takeUpTo_b45 N (fX35_takeUpTo_b14 N n) l0 l1 l2 l4 l5 l6 q9.1 q9.2
        else
          (k_ok 34 q9.2 l0).bind fun _ =>
          (fX35_fail l0 (2 : Int32) q9.2).bind fun q15 =>
          fX35_takeUpTo_b45 N (fX35_takeUpTo_b14 N n) l0 l1 l2 l4 l5 l6 q9.1 q15.2
theorem pX35_takeUpTo_b14 {w : eW} {d : Nat} (hd : 6 ≤ d + 1) {N : Nat} : ∀ (n : Nat) l0 l1 l2 l4 l5 l6 l7 h q, fX35_takeUpTo_b14 N n l0 l1 l2 l4 l5 l6 l7 h = some q → wp w (d + 1) YX35_takeUpTo 14 [some (.ref l0), some (.int l1), some (.int l2), none, some (.int l4), some (.int l5), some (.int l6), some (.int l7), none, none] [] h (e_is (e_rn c_V q)) := by
  intro n
  induction n with
  | zero => intro l0 l1 l2 l4 l5 l6 l7 h q hf; simp [fX35_takeUpTo_b14] at hf
  | succ n ih =>
    intro l0 l1 l2 l4 l5 l6 l7 h q hf
    rw [fX35_takeUpTo_b14] at hf
    refine w_iload dX35_takeUpTo_14 rfl ?_
    refine w_if_ne 210 dX35_takeUpTo_16 (by decide) (fun c1 => ?_) (fun c1 => ?_)
    · replace hf := (if_pos (show ¬ l7 = 0 from c1)).symm.trans hf
      refine w_aload_n dX35_takeUpTo_210 rfl rfl ?_
      obtain ⟨a2, b3, hf⟩ := Option.bind_eq_some_iff.mp hf
      refine GX35_112 b3 dX35_takeUpTo_211 rfl ?_
      refine w_iload_n dX35_takeUpTo_214 rfl rfl ?_
      refine w_iload dX35_takeUpTo_215 rfl ?_
      refine w_iload dX35_takeUpTo_217 rfl ?_
      refine w_isub dX35_takeUpTo_219 ?_
      obtain ⟨h4, b5, hf⟩ := Option.bind_eq_some_iff.mp hf
      refine x_qI b5 dX35_takeUpTo_220 ?_
      refine w_aload_n dX35_takeUpTo_221 rfl rfl ?_
      refine w_iload_n dX35_takeUpTo_222 rfl rfl ?_
      obtain ⟨_, b6, hf⟩ := Option.bind_eq_some_iff.mp hf
      refine x_cnV hf (e_stV (Yc := YX35_bareOf) (ci := 34) (av := [.int l1]) (st := []) dX35_takeUpTo_223 q5173 mX35_bareOf rfl (k_ok_some b6).1 (k_ok_some b6).2) mX35_bareOf.2.2.1 mX35_bareOf.2.2.2.2.1 (Nat.le_of_ble_eq_true rfl) (Nat.le_of_ble_eq_true rfl) (fun q hq => pX35_bareOf (by omega) hq) (fun q7 hf => ?_)
      cases hf
      exact w_vret dX35_takeUpTo_226 rfl rfl
    · replace hf := (if_neg (show ¬ (¬ l7 = 0) from (fun z => z c1))).symm.trans hf
      refine w_aload_n dX35_takeUpTo_19 rfl rfl ?_
      obtain ⟨_, b8, hf⟩ := Option.bind_eq_some_iff.mp hf
      refine x_cnI hf (e_stV (Yc := YX35_need) (ci := 34) (av := []) (st := []) dX35_takeUpTo_20 q5154 mX35_need rfl (k_ok_some b8).1 (k_ok_some b8).2) mX35_need.2.2.1 mX35_need.2.2.2.2.1 (Nat.le_of_ble_eq_true rfl) (Nat.le_of_ble_eq_true rfl) (fun q hq => pX35_need (by omega) hq) (fun q9 hf => ?_)
      refine w_istore dX35_takeUpTo_23 (by decide) (ls' := [some (.ref l0), some (.int l1), some (.int l2), none, some (.int l4), some (.int l5), some (.int l6), some (.int l7), some (.int q9.1), none]) rfl ?_
      refine w_aload_n dX35_takeUpTo_25 rfl rfl ?_
      obtain ⟨x10, b11, hf⟩ := Option.bind_eq_some_iff.mp hf
      refine GX35_321 b11 dX35_takeUpTo_26 rfl ?_
      refine w_if_ne 45 dX35_takeUpTo_29 (by decide) (fun c12 => ?_) (fun c12 => ?_)
      · replace hf := (if_pos (show ¬ x10 = 0 from c12)).symm.trans hf
        exact (pX35_takeUpTo_b45 hd ih hf).to ⟨rfl, rfl, rfl, rfl, rfl, rfl, rfl, trivial⟩
      · replace hf := (if_neg (show ¬ (¬ x10 = 0) from (fun z => z c12))).symm.trans hf
        refine w_iload dX35_takeUpTo_32 rfl ?_
        refine w_sipush dX35_takeUpTo_34 (v := 10000) (by decide) ?_
        refine w_icmp_ne 45 dX35_takeUpTo_37 (by decide) (fun c13 => ?_) (fun c13 => ?_)
        · replace hf := (if_pos (show ¬ l5 = (10000 : Int32) from c13)).symm.trans hf
          exact (pX35_takeUpTo_b45 hd ih hf).to ⟨rfl, rfl, rfl, rfl, rfl, rfl, rfl, trivial⟩
        · replace hf := (if_neg (show ¬ (¬ l5 = (10000 : Int32)) from (fun z => z c13))).symm.trans hf
          refine w_aload_n dX35_takeUpTo_40 rfl rfl ?_
          refine w_iconst dX35_takeUpTo_41 (v := 2) (by decide) ?_
          obtain ⟨_, b14, hf⟩ := Option.bind_eq_some_iff.mp hf
          refine x_cnV hf (e_stV (Yc := YX35_fail) (ci := 34) (av := [.int (2 : Int32)]) (st := []) dX35_takeUpTo_42 q5109 mX35_fail rfl (k_ok_some b14).1 (k_ok_some b14).2) mX35_fail.2.2.1 mX35_fail.2.2.2.2.1 (Nat.le_of_ble_eq_true rfl) (Nat.le_of_ble_eq_true rfl) (fun q hq => pX35_fail (by omega) hq) (fun q15 hf => ?_)
          exact (pX35_takeUpTo_b45 hd ih hf).to ⟨rfl, rfl, rfl, rfl, rfl, rfl, rfl, trivial⟩
def fX35_takeUpTo (N : Nat) (this : Nat) (p0 : Int32) (p1 : Int32) (p2 : Int32) (h : eH) : Option (Unit × eH) :=
  fX35_takeUpTo_b14 N N this p0 p1 (p2 - p1) (0 : Int32) (0 : Int32) (0 : Int32) h
theorem pX35_takeUpTo {w : eW} {d : Nat} (hd : 6 ≤ d) {N : Nat} {this : Nat} {p0 : Int32} {p1 : Int32} {p2 : Int32} {h : eH} {q} (hf : fX35_takeUpTo N this p0 p1 p2 h = some q) : wm w d YX35_takeUpTo [.ref this, .int p0, .int p1, .int p2] h (e_is (e_rn c_V q)) := by
  obtain ⟨d, rfl⟩ : ∃ e, d = e + 1 := ⟨d - 1, by omega⟩
  show wp w (d + 1) YX35_takeUpTo 0 [some (.ref this), some (.int p0), some (.int p1), some (.int p2), none, none, none, none, none, none] [] h _
  unfold fX35_takeUpTo at hf
  refine w_iload_n dX35_takeUpTo_0 rfl rfl ?_
  refine w_iload_n dX35_takeUpTo_1 rfl rfl ?_
  refine w_isub dX35_takeUpTo_2 ?_
  refine w_istore dX35_takeUpTo_3 (by decide) (ls' := [some (.ref this), some (.int p0), some (.int p1), some (.int p2), some (.int (p2 - p1)), none, none, none, none, none]) rfl ?_
  refine w_iconst dX35_takeUpTo_5 (v := 0) (by decide) ?_
  refine w_istore dX35_takeUpTo_6 (by decide) (ls' := [some (.ref this), some (.int p0), some (.int p1), some (.int p2), some (.int (p2 - p1)), some (.int (0 : Int32)), none, none, none, none]) rfl ?_
  refine w_iconst dX35_takeUpTo_8 (v := 0) (by decide) ?_
  refine w_istore dX35_takeUpTo_9 (by decide) (ls' := [some (.ref this), some (.int p0), some (.int p1), some (.int p2), some (.int (p2 - p1)), some (.int (0 : Int32)), some (.int (0 : Int32)), none, none, none]) rfl ?_
  refine w_iconst dX35_takeUpTo_11 (v := 0) (by decide) ?_
  refine w_istore dX35_takeUpTo_12 (by decide) (ls' := [some (.ref this), some (.int p0), some (.int p1), some (.int p2), some (.int (p2 - p1)), some (.int (0 : Int32)), some (.int (0 : Int32)), some (.int (0 : Int32)), none, none]) rfl ?_
  exact (pX35_takeUpTo_b14 hd N _ _ _ _ _ _ _ _ _ hf).to ⟨rfl, rfl, rfl, rfl, rfl, rfl, rfl, trivial⟩
abbrev cX35_putOfBody : ByteArray := prog_37_method_53_code
def yX35_putOfBody : MethodName := ⟨RX35, "putOfBody", "(I)V"⟩
def YX35_putOfBody : eY := (yX35_putOfBody, cX35_putOfBody, 2, none, [])
theorem mX35_putOfBody : e_mv YX35_putOfBody RX35 1 := ⟨q5179, qs257, q5180, by decide, by decide +kernel, (e_sig (by decide +kernel))⟩
theorem dX35_putOfBody_0 : decode cX35_putOfBody 0 = .ok (.aload_n 0, 1) := dc_42 (by decide +kernel)
theorem dX35_putOfBody_1 : decode cX35_putOfBody 1 = .ok (.getfield 347, 3) := dc_180 (a := 1) (b := 91) (n := 347) (by decide +kernel)
theorem dX35_putOfBody_4 : decode cX35_putOfBody 4 = .ok (.sipush 10000, 3) := dc_17 (a := 39) (b := 16) (v := 10000) (by decide +kernel)
theorem dX35_putOfBody_7 : decode cX35_putOfBody 7 = .ok (.if_icmp .le 8, 3) := dc_164 (a := 0) (b := 8) (v := 8) (by decide +kernel)
theorem dX35_putOfBody_10 : decode cX35_putOfBody 10 = .ok (.aload_n 0, 1) := dc_42 (by decide +kernel)
theorem dX35_putOfBody_11 : decode cX35_putOfBody 11 = .ok (.iconst 2, 1) := dc_5 (by decide +kernel)
theorem dX35_putOfBody_12 : decode cX35_putOfBody 12 = .ok (.invokevirtual 428, 3) := dc_182 (a := 1) (b := 172) (n := 428) (by decide +kernel)
theorem dX35_putOfBody_15 : decode cX35_putOfBody 15 = .ok (.aload_n 0, 1) := dc_42 (by decide +kernel)
theorem dX35_putOfBody_16 : decode cX35_putOfBody 16 = .ok (.iload_n 1, 1) := dc_27 (by decide +kernel)
theorem dX35_putOfBody_17 : decode cX35_putOfBody 17 = .ok (.invokevirtual 509, 3) := dc_182 (a := 1) (b := 253) (n := 509) (by decide +kernel)
theorem dX35_putOfBody_20 : decode cX35_putOfBody 20 = .ok (.return_, 1) := dc_177 (by decide +kernel)
def fX35_putOfBody_b15 (l0 : Nat) (l1 : Int32) (h : eH) : Option (Unit × eH) :=
  (k_ok 34 h l0).bind fun _ =>
  (fX35_put l0 l1 h).bind fun q2 =>
  some ((), q2.2)
theorem pX35_putOfBody_b15 {w : eW} {d : Nat} (hd : 1 ≤ d + 1) {l0 : Nat} {l1 : Int32} {h : eH} {q} (hf : fX35_putOfBody_b15 l0 l1 h = some q) : wp w (d + 1) YX35_putOfBody 15 [some (.ref l0), some (.int l1)] [] h (e_is (e_rn c_V q)) := by
  unfold fX35_putOfBody_b15 at hf
  refine w_aload_n dX35_putOfBody_15 rfl rfl ?_
  refine w_iload_n dX35_putOfBody_16 rfl rfl ?_
  obtain ⟨_, b1, hf⟩ := Option.bind_eq_some_iff.mp hf
  refine x_cnV hf (e_stV (Yc := YX35_put) (ci := 34) (av := [.int l1]) (st := []) dX35_putOfBody_17 q5181 mX35_put rfl (k_ok_some b1).1 (k_ok_some b1).2) mX35_put.2.2.1 mX35_put.2.2.2.2.1 (Nat.le_of_ble_eq_true rfl) (Nat.le_of_ble_eq_true rfl) (fun q hq => pX35_put (by omega) hq) (fun q2 hf => ?_)
  cases hf
  exact w_vret dX35_putOfBody_20 rfl rfl
def fX35_putOfBody (this : Nat) (p0 : Int32) (h : eH) : Option (Unit × eH) :=
  (g_I 34 h this 37).bind fun x1 =>
  if x1 ≤ (10000 : Int32) then
    fX35_putOfBody_b15 this p0 h
  else
    (k_ok 34 h this).bind fun _ =>
    (fX35_fail this (2 : Int32) h).bind fun q5 =>
    fX35_putOfBody_b15 this p0 q5.2
theorem pX35_putOfBody {w : eW} {d : Nat} (hd : 1 ≤ d) {this : Nat} {p0 : Int32} {h : eH} {q} (hf : fX35_putOfBody this p0 h = some q) : wm w d YX35_putOfBody [.ref this, .int p0] h (e_is (e_rn c_V q)) := by
  obtain ⟨d, rfl⟩ : ∃ e, d = e + 1 := ⟨d - 1, by omega⟩
  show wp w (d + 1) YX35_putOfBody 0 [some (.ref this), some (.int p0)] [] h _
  unfold fX35_putOfBody at hf
  refine w_aload_n dX35_putOfBody_0 rfl rfl ?_
  obtain ⟨x1, b2, hf⟩ := Option.bind_eq_some_iff.mp hf
  refine GX35_347 b2 dX35_putOfBody_1 rfl ?_
  refine w_sipush dX35_putOfBody_4 (v := 10000) (by decide) ?_
  refine w_icmp_le 15 dX35_putOfBody_7 (by decide) (fun c3 => ?_) (fun c3 => ?_)
  · replace hf := (if_pos (show x1 ≤ (10000 : Int32) from c3)).symm.trans hf
    exact (pX35_putOfBody_b15 hd hf).to ⟨rfl, rfl, trivial⟩
  · replace hf := (if_neg (show ¬ (x1 ≤ (10000 : Int32)) from c3)).symm.trans hf
    refine w_aload_n dX35_putOfBody_10 rfl rfl ?_
    refine w_iconst dX35_putOfBody_11 (v := 2) (by decide) ?_
    obtain ⟨_, b4, hf⟩ := Option.bind_eq_some_iff.mp hf
    refine x_cnV hf (e_stV (Yc := YX35_fail) (ci := 34) (av := [.int (2 : Int32)]) (st := []) dX35_putOfBody_12 q5109 mX35_fail rfl (k_ok_some b4).1 (k_ok_some b4).2) mX35_fail.2.2.1 mX35_fail.2.2.2.2.1 (Nat.le_of_ble_eq_true rfl) (Nat.le_of_ble_eq_true rfl) (fun q hq => pX35_fail (by omega) hq) (fun q5 hf => ?_)
    exact (pX35_putOfBody_b15 hd hf).to ⟨rfl, rfl, trivial⟩
abbrev cX35_call : ByteArray := prog_37_method_52_code
def yX35_call : MethodName := ⟨RX35, "call", "(I)V"⟩
def YX35_call : eY := (yX35_call, cX35_call, 6, none, [])
theorem mX35_call : e_mv YX35_call RX35 1 := ⟨q5152, qs251, q5153, by decide, by decide +kernel, (e_sig (by decide +kernel))⟩
theorem dX35_call_0 : decode cX35_call 0 = .ok (.aload_n 0, 1) := dc_42 (by decide +kernel)
theorem dX35_call_1 : decode cX35_call 1 = .ok (.getfield 93, 3) := dc_180 (a := 0) (b := 93) (n := 93) (by decide +kernel)
theorem dX35_call_4 : decode cX35_call 4 = .ok (.iload_n 1, 1) := dc_27 (by decide +kernel)
theorem dX35_call_5 : decode cX35_call 5 = .ok (.iaload, 1) := dc_46 (by decide +kernel)
theorem dX35_call_6 : decode cX35_call 6 = .ok (.istore_n 2, 1) := dc_61 (by decide +kernel)
theorem dX35_call_7 : decode cX35_call 7 = .ok (.aload_n 0, 1) := dc_42 (by decide +kernel)
theorem dX35_call_8 : decode cX35_call 8 = .ok (.getfield 321, 3) := dc_180 (a := 1) (b := 65) (n := 321) (by decide +kernel)
theorem dX35_call_11 : decode cX35_call 11 = .ok (.ifCond .ne 62, 3) := dc_154 (a := 0) (b := 62) (v := 62) (by decide +kernel)
theorem dX35_call_14 : decode cX35_call 14 = .ok (.iload_n 2, 1) := dc_28 (by decide +kernel)
theorem dX35_call_15 : decode cX35_call 15 = .ok (.aload_n 0, 1) := dc_42 (by decide +kernel)
theorem dX35_call_16 : decode cX35_call 16 = .ok (.getfield 96, 3) := dc_180 (a := 0) (b := 96) (n := 96) (by decide +kernel)
theorem dX35_call_19 : decode cX35_call 19 = .ok (.iload_n 1, 1) := dc_27 (by decide +kernel)
theorem dX35_call_20 : decode cX35_call 20 = .ok (.iaload, 1) := dc_46 (by decide +kernel)
theorem dX35_call_21 : decode cX35_call 21 = .ok (.if_icmp .ge 52, 3) := dc_162 (a := 0) (b := 52) (v := 52) (by decide +kernel)
theorem dX35_call_24 : decode cX35_call 24 = .ok (.aload_n 0, 1) := dc_42 (by decide +kernel)
theorem dX35_call_25 : decode cX35_call 25 = .ok (.getfield 102, 3) := dc_180 (a := 0) (b := 102) (n := 102) (by decide +kernel)
theorem dX35_call_28 : decode cX35_call 28 = .ok (.iload_n 2, 1) := dc_28 (by decide +kernel)
theorem dX35_call_29 : decode cX35_call 29 = .ok (.iaload, 1) := dc_46 (by decide +kernel)
theorem dX35_call_30 : decode cX35_call 30 = .ok (.ldc_w 402, 3) := dc_19 (a := 1) (b := 146) (n := 402) (by decide +kernel)
theorem dX35_call_33 : decode cX35_call 33 = .ok (.if_icmp .ge 40, 3) := dc_162 (a := 0) (b := 40) (v := 40) (by decide +kernel)
theorem dX35_call_36 : decode cX35_call 36 = .ok (.aload_n 0, 1) := dc_42 (by decide +kernel)
theorem dX35_call_37 : decode cX35_call 37 = .ok (.invokevirtual 506, 3) := dc_182 (a := 1) (b := 250) (n := 506) (by decide +kernel)
theorem dX35_call_40 : decode cX35_call 40 = .ok (.istore_n 3, 1) := dc_62 (by decide +kernel)
theorem dX35_call_41 : decode cX35_call 41 = .ok (.aload_n 0, 1) := dc_42 (by decide +kernel)
theorem dX35_call_42 : decode cX35_call 42 = .ok (.getfield 321, 3) := dc_180 (a := 1) (b := 65) (n := 321) (by decide +kernel)
theorem dX35_call_45 : decode cX35_call 45 = .ok (.ifCond .ne 22, 3) := dc_154 (a := 0) (b := 22) (v := 22) (by decide +kernel)
theorem dX35_call_48 : decode cX35_call 48 = .ok (.aload_n 0, 1) := dc_42 (by decide +kernel)
theorem dX35_call_49 : decode cX35_call 49 = .ok (.iload_n 3, 1) := dc_29 (by decide +kernel)
theorem dX35_call_50 : decode cX35_call 50 = .ok (.aload_n 0, 1) := dc_42 (by decide +kernel)
theorem dX35_call_51 : decode cX35_call 51 = .ok (.getfield 102, 3) := dc_180 (a := 0) (b := 102) (n := 102) (by decide +kernel)
theorem dX35_call_54 : decode cX35_call 54 = .ok (.iload_n 2, 1) := dc_28 (by decide +kernel)
theorem dX35_call_55 : decode cX35_call 55 = .ok (.iaload, 1) := dc_46 (by decide +kernel)
theorem dX35_call_56 : decode cX35_call 56 = .ok (.invokevirtual 568, 3) := dc_182 (a := 2) (b := 56) (n := 568) (by decide +kernel)
theorem dX35_call_59 : decode cX35_call 59 = .ok (.ifCond .ne 8, 3) := dc_154 (a := 0) (b := 8) (v := 8) (by decide +kernel)
theorem dX35_call_62 : decode cX35_call 62 = .ok (.aload_n 0, 1) := dc_42 (by decide +kernel)
theorem dX35_call_63 : decode cX35_call 63 = .ok (.iconst 4, 1) := dc_7 (by decide +kernel)
theorem dX35_call_64 : decode cX35_call 64 = .ok (.invokevirtual 428, 3) := dc_182 (a := 1) (b := 172) (n := 428) (by decide +kernel)
theorem dX35_call_67 : decode cX35_call 67 = .ok (.iinc 2 1, 3) := dc_132 (a := 2) (b := 1) (v := 1) (by decide +kernel)
theorem dX35_call_70 : decode cX35_call 70 = .ok (.goto (-63), 3) := dc_167 (a := 255) (b := 193) (v := -63) (by decide +kernel)
theorem dX35_call_73 : decode cX35_call 73 = .ok (.iconst 0, 1) := dc_3 (by decide +kernel)
theorem dX35_call_74 : decode cX35_call 74 = .ok (.istore_n 3, 1) := dc_62 (by decide +kernel)
theorem dX35_call_75 : decode cX35_call 75 = .ok (.iload_n 3, 1) := dc_29 (by decide +kernel)
theorem dX35_call_76 : decode cX35_call 76 = .ok (.aload_n 0, 1) := dc_42 (by decide +kernel)
theorem dX35_call_77 : decode cX35_call 77 = .ok (.getfield 90, 3) := dc_180 (a := 0) (b := 90) (n := 90) (by decide +kernel)
theorem dX35_call_80 : decode cX35_call 80 = .ok (.iload_n 1, 1) := dc_27 (by decide +kernel)
theorem dX35_call_81 : decode cX35_call 81 = .ok (.iaload, 1) := dc_46 (by decide +kernel)
theorem dX35_call_82 : decode cX35_call 82 = .ok (.if_icmp .ge 82, 3) := dc_162 (a := 0) (b := 82) (v := 82) (by decide +kernel)
theorem dX35_call_85 : decode cX35_call 85 = .ok (.aload_n 0, 1) := dc_42 (by decide +kernel)
theorem dX35_call_86 : decode cX35_call 86 = .ok (.getfield 321, 3) := dc_180 (a := 1) (b := 65) (n := 321) (by decide +kernel)
theorem dX35_call_89 : decode cX35_call 89 = .ok (.ifCond .ne 75, 3) := dc_154 (a := 0) (b := 75) (v := 75) (by decide +kernel)
theorem dX35_call_92 : decode cX35_call 92 = .ok (.iload_n 2, 1) := dc_28 (by decide +kernel)
theorem dX35_call_93 : decode cX35_call 93 = .ok (.iconst 1, 1) := dc_4 (by decide +kernel)
theorem dX35_call_94 : decode cX35_call 94 = .ok (.iadd, 1) := dc_96 (by decide +kernel)
theorem dX35_call_95 : decode cX35_call 95 = .ok (.istore 4, 2) := dc_54 (a := 4) (by decide +kernel)
theorem dX35_call_97 : decode cX35_call 97 = .ok (.iload 4, 2) := dc_21 (a := 4) (by decide +kernel)
theorem dX35_call_99 : decode cX35_call 99 = .ok (.istore 5, 2) := dc_54 (a := 5) (by decide +kernel)
theorem dX35_call_101 : decode cX35_call 101 = .ok (.iload 5, 2) := dc_21 (a := 5) (by decide +kernel)
theorem dX35_call_103 : decode cX35_call 103 = .ok (.aload_n 0, 1) := dc_42 (by decide +kernel)
theorem dX35_call_104 : decode cX35_call 104 = .ok (.getfield 96, 3) := dc_180 (a := 0) (b := 96) (n := 96) (by decide +kernel)
theorem dX35_call_107 : decode cX35_call 107 = .ok (.iload_n 1, 1) := dc_27 (by decide +kernel)
theorem dX35_call_108 : decode cX35_call 108 = .ok (.iaload, 1) := dc_46 (by decide +kernel)
theorem dX35_call_109 : decode cX35_call 109 = .ok (.if_icmp .ge 22, 3) := dc_162 (a := 0) (b := 22) (v := 22) (by decide +kernel)
theorem dX35_call_112 : decode cX35_call 112 = .ok (.aload_n 0, 1) := dc_42 (by decide +kernel)
theorem dX35_call_113 : decode cX35_call 113 = .ok (.getfield 102, 3) := dc_180 (a := 0) (b := 102) (n := 102) (by decide +kernel)
theorem dX35_call_116 : decode cX35_call 116 = .ok (.iload 5, 2) := dc_21 (a := 5) (by decide +kernel)
theorem dX35_call_118 : decode cX35_call 118 = .ok (.iaload, 1) := dc_46 (by decide +kernel)
theorem dX35_call_119 : decode cX35_call 119 = .ok (.ldc_w 402, 3) := dc_19 (a := 1) (b := 146) (n := 402) (by decide +kernel)
theorem dX35_call_122 : decode cX35_call 122 = .ok (.if_icmp .ge 9, 3) := dc_162 (a := 0) (b := 9) (v := 9) (by decide +kernel)
theorem dX35_call_125 : decode cX35_call 125 = .ok (.iinc 5 1, 3) := dc_132 (a := 5) (b := 1) (v := 1) (by decide +kernel)
theorem dX35_call_128 : decode cX35_call 128 = .ok (.goto (-27), 3) := dc_167 (a := 255) (b := 229) (v := -27) (by decide +kernel)
theorem dX35_call_131 : decode cX35_call 131 = .ok (.iload 4, 2) := dc_21 (a := 4) (by decide +kernel)
theorem dX35_call_133 : decode cX35_call 133 = .ok (.iload 5, 2) := dc_21 (a := 5) (by decide +kernel)
theorem dX35_call_135 : decode cX35_call 135 = .ok (.if_icmp .ne 11, 3) := dc_160 (a := 0) (b := 11) (v := 11) (by decide +kernel)
theorem dX35_call_138 : decode cX35_call 138 = .ok (.aload_n 0, 1) := dc_42 (by decide +kernel)
theorem dX35_call_139 : decode cX35_call 139 = .ok (.iload_n 3, 1) := dc_29 (by decide +kernel)
theorem dX35_call_140 : decode cX35_call 140 = .ok (.invokevirtual 571, 3) := dc_182 (a := 2) (b := 59) (n := 571) (by decide +kernel)
theorem dX35_call_143 : decode cX35_call 143 = .ok (.goto 12, 3) := dc_167 (a := 0) (b := 12) (v := 12) (by decide +kernel)
theorem dX35_call_146 : decode cX35_call 146 = .ok (.aload_n 0, 1) := dc_42 (by decide +kernel)
theorem dX35_call_147 : decode cX35_call 147 = .ok (.iload_n 3, 1) := dc_29 (by decide +kernel)
theorem dX35_call_148 : decode cX35_call 148 = .ok (.iload 4, 2) := dc_21 (a := 4) (by decide +kernel)
theorem dX35_call_150 : decode cX35_call 150 = .ok (.iload 5, 2) := dc_21 (a := 5) (by decide +kernel)
theorem dX35_call_152 : decode cX35_call 152 = .ok (.invokevirtual 574, 3) := dc_182 (a := 2) (b := 62) (n := 574) (by decide +kernel)
theorem dX35_call_155 : decode cX35_call 155 = .ok (.iload 5, 2) := dc_21 (a := 5) (by decide +kernel)
theorem dX35_call_157 : decode cX35_call 157 = .ok (.istore_n 2, 1) := dc_61 (by decide +kernel)
theorem dX35_call_158 : decode cX35_call 158 = .ok (.iinc 3 1, 3) := dc_132 (a := 3) (b := 1) (v := 1) (by decide +kernel)
theorem dX35_call_161 : decode cX35_call 161 = .ok (.goto (-86), 3) := dc_167 (a := 255) (b := 170) (v := -86) (by decide +kernel)
theorem dX35_call_164 : decode cX35_call 164 = .ok (.aload_n 0, 1) := dc_42 (by decide +kernel)
theorem dX35_call_165 : decode cX35_call 165 = .ok (.getfield 99, 3) := dc_180 (a := 0) (b := 99) (n := 99) (by decide +kernel)
theorem dX35_call_168 : decode cX35_call 168 = .ok (.iload_n 1, 1) := dc_27 (by decide +kernel)
theorem dX35_call_169 : decode cX35_call 169 = .ok (.iaload, 1) := dc_46 (by decide +kernel)
theorem dX35_call_170 : decode cX35_call 170 = .ok (.iconst 1, 1) := dc_4 (by decide +kernel)
theorem dX35_call_171 : decode cX35_call 171 = .ok (.isub, 1) := dc_100 (by decide +kernel)
theorem dX35_call_172 : decode cX35_call 172 = .ok (.istore_n 3, 1) := dc_62 (by decide +kernel)
theorem dX35_call_173 : decode cX35_call 173 = .ok (.iload_n 3, 1) := dc_29 (by decide +kernel)
theorem dX35_call_174 : decode cX35_call 174 = .ok (.aload_n 0, 1) := dc_42 (by decide +kernel)
theorem dX35_call_175 : decode cX35_call 175 = .ok (.getfield 96, 3) := dc_180 (a := 0) (b := 96) (n := 96) (by decide +kernel)
theorem dX35_call_178 : decode cX35_call 178 = .ok (.iload_n 1, 1) := dc_27 (by decide +kernel)
theorem dX35_call_179 : decode cX35_call 179 = .ok (.iaload, 1) := dc_46 (by decide +kernel)
theorem dX35_call_180 : decode cX35_call 180 = .ok (.if_icmp .lt 102, 3) := dc_161 (a := 0) (b := 102) (v := 102) (by decide +kernel)
theorem dX35_call_183 : decode cX35_call 183 = .ok (.aload_n 0, 1) := dc_42 (by decide +kernel)
theorem dX35_call_184 : decode cX35_call 184 = .ok (.getfield 321, 3) := dc_180 (a := 1) (b := 65) (n := 321) (by decide +kernel)
theorem dX35_call_187 : decode cX35_call 187 = .ok (.ifCond .ne 95, 3) := dc_154 (a := 0) (b := 95) (v := 95) (by decide +kernel)
theorem dX35_call_190 : decode cX35_call 190 = .ok (.aload_n 0, 1) := dc_42 (by decide +kernel)
theorem dX35_call_191 : decode cX35_call 191 = .ok (.getfield 102, 3) := dc_180 (a := 0) (b := 102) (n := 102) (by decide +kernel)
theorem dX35_call_194 : decode cX35_call 194 = .ok (.iload_n 3, 1) := dc_29 (by decide +kernel)
theorem dX35_call_195 : decode cX35_call 195 = .ok (.iaload, 1) := dc_46 (by decide +kernel)
theorem dX35_call_196 : decode cX35_call 196 = .ok (.ldc_w 402, 3) := dc_19 (a := 1) (b := 146) (n := 402) (by decide +kernel)
theorem dX35_call_199 : decode cX35_call 199 = .ok (.if_icmp .ge 16, 3) := dc_162 (a := 0) (b := 16) (v := 16) (by decide +kernel)
theorem dX35_call_202 : decode cX35_call 202 = .ok (.aload_n 0, 1) := dc_42 (by decide +kernel)
theorem dX35_call_203 : decode cX35_call 203 = .ok (.aload_n 0, 1) := dc_42 (by decide +kernel)
theorem dX35_call_204 : decode cX35_call 204 = .ok (.getfield 102, 3) := dc_180 (a := 0) (b := 102) (n := 102) (by decide +kernel)
theorem dX35_call_207 : decode cX35_call 207 = .ok (.iload_n 3, 1) := dc_29 (by decide +kernel)
theorem dX35_call_208 : decode cX35_call 208 = .ok (.iaload, 1) := dc_46 (by decide +kernel)
theorem dX35_call_209 : decode cX35_call 209 = .ok (.invokevirtual 578, 3) := dc_182 (a := 2) (b := 66) (n := 578) (by decide +kernel)
theorem dX35_call_212 : decode cX35_call 212 = .ok (.goto 64, 3) := dc_167 (a := 0) (b := 64) (v := 64) (by decide +kernel)
theorem dX35_call_215 : decode cX35_call 215 = .ok (.aload_n 0, 1) := dc_42 (by decide +kernel)
theorem dX35_call_216 : decode cX35_call 216 = .ok (.getfield 102, 3) := dc_180 (a := 0) (b := 102) (n := 102) (by decide +kernel)
theorem dX35_call_219 : decode cX35_call 219 = .ok (.iload_n 3, 1) := dc_29 (by decide +kernel)
theorem dX35_call_220 : decode cX35_call 220 = .ok (.iaload, 1) := dc_46 (by decide +kernel)
theorem dX35_call_221 : decode cX35_call 221 = .ok (.ldc_w 402, 3) := dc_19 (a := 1) (b := 146) (n := 402) (by decide +kernel)
theorem dX35_call_224 : decode cX35_call 224 = .ok (.isub, 1) := dc_100 (by decide +kernel)
theorem dX35_call_225 : decode cX35_call 225 = .ok (.iconst 1, 1) := dc_4 (by decide +kernel)
theorem dX35_call_226 : decode cX35_call 226 = .ok (.isub, 1) := dc_100 (by decide +kernel)
theorem dX35_call_227 : decode cX35_call 227 = .ok (.istore 4, 2) := dc_54 (a := 4) (by decide +kernel)
theorem dX35_call_229 : decode cX35_call 229 = .ok (.aload_n 0, 1) := dc_42 (by decide +kernel)
theorem dX35_call_230 : decode cX35_call 230 = .ok (.getfield 112, 3) := dc_180 (a := 0) (b := 112) (n := 112) (by decide +kernel)
theorem dX35_call_233 : decode cX35_call 233 = .ok (.iload 4, 2) := dc_21 (a := 4) (by decide +kernel)
theorem dX35_call_235 : decode cX35_call 235 = .ok (.iaload, 1) := dc_46 (by decide +kernel)
theorem dX35_call_236 : decode cX35_call 236 = .ok (.iconst 1, 1) := dc_4 (by decide +kernel)
theorem dX35_call_237 : decode cX35_call 237 = .ok (.isub, 1) := dc_100 (by decide +kernel)
theorem dX35_call_238 : decode cX35_call 238 = .ok (.istore 5, 2) := dc_54 (a := 5) (by decide +kernel)
theorem dX35_call_240 : decode cX35_call 240 = .ok (.iload 5, 2) := dc_21 (a := 5) (by decide +kernel)
theorem dX35_call_242 : decode cX35_call 242 = .ok (.ifCond .lt 34, 3) := dc_155 (a := 0) (b := 34) (v := 34) (by decide +kernel)
theorem dX35_call_245 : decode cX35_call 245 = .ok (.aload_n 0, 1) := dc_42 (by decide +kernel)
theorem dX35_call_246 : decode cX35_call 246 = .ok (.getfield 321, 3) := dc_180 (a := 1) (b := 65) (n := 321) (by decide +kernel)
theorem dX35_call_249 : decode cX35_call 249 = .ok (.ifCond .ne 27, 3) := dc_154 (a := 0) (b := 27) (v := 27) (by decide +kernel)
theorem dX35_call_252 : decode cX35_call 252 = .ok (.aload_n 0, 1) := dc_42 (by decide +kernel)
theorem dX35_call_253 : decode cX35_call 253 = .ok (.aload_n 0, 1) := dc_42 (by decide +kernel)
theorem dX35_call_254 : decode cX35_call 254 = .ok (.getfield 109, 3) := dc_180 (a := 0) (b := 109) (n := 109) (by decide +kernel)
theorem dX35_call_257 : decode cX35_call 257 = .ok (.sipush 11000, 3) := dc_17 (a := 42) (b := 248) (v := 11000) (by decide +kernel)
theorem dX35_call_260 : decode cX35_call 260 = .ok (.iload 4, 2) := dc_21 (a := 4) (by decide +kernel)
theorem dX35_call_262 : decode cX35_call 262 = .ok (.imul, 1) := dc_104 (by decide +kernel)
theorem dX35_call_263 : decode cX35_call 263 = .ok (.iload 5, 2) := dc_21 (a := 5) (by decide +kernel)
theorem dX35_call_265 : decode cX35_call 265 = .ok (.iadd, 1) := dc_96 (by decide +kernel)
theorem dX35_call_266 : decode cX35_call 266 = .ok (.iaload, 1) := dc_46 (by decide +kernel)
theorem dX35_call_267 : decode cX35_call 267 = .ok (.invokevirtual 578, 3) := dc_182 (a := 2) (b := 66) (n := 578) (by decide +kernel)
theorem dX35_call_270 : decode cX35_call 270 = .ok (.iinc 5 (-1), 3) := dc_132 (a := 5) (b := 255) (v := -1) (by decide +kernel)
theorem dX35_call_273 : decode cX35_call 273 = .ok (.goto (-33), 3) := dc_167 (a := 255) (b := 223) (v := -33) (by decide +kernel)
theorem dX35_call_276 : decode cX35_call 276 = .ok (.iinc 3 (-1), 3) := dc_132 (a := 3) (b := 255) (v := -1) (by decide +kernel)
theorem dX35_call_279 : decode cX35_call 279 = .ok (.goto (-106), 3) := dc_167 (a := 255) (b := 150) (v := -106) (by decide +kernel)
theorem dX35_call_282 : decode cX35_call 282 = .ok (.return_, 1) := dc_177 (by decide +kernel)
theorem GX35_90 {w : eW} {d : Nat} {Y : eY} {pc : Nat} {ls : eL} {st : List Value} {h : eH} {Q : eO → eH → Prop} {a : Nat} {x : Nat} (hf : g_A 34 h a 31 = some x) (hd : decode Y.2.1 pc = .ok (.getfield 90, 3)) (hY : Y.1.cls = RX35) (kk : wp w d Y (pc + 3) ls (.ref x :: st) h Q) : wp w d Y pc ls (.ref a :: st) h Q := x_gA (ci := 34) (k := 31) hf hd rfl (by decide) (by rw [hY]; exact q4533) kk
theorem GX35_93 {w : eW} {d : Nat} {Y : eY} {pc : Nat} {ls : eL} {st : List Value} {h : eH} {Q : eO → eH → Prop} {a : Nat} {x : Nat} (hf : g_A 34 h a 32 = some x) (hd : decode Y.2.1 pc = .ok (.getfield 93, 3)) (hY : Y.1.cls = RX35) (kk : wp w d Y (pc + 3) ls (.ref x :: st) h Q) : wp w d Y pc ls (.ref a :: st) h Q := x_gA (ci := 34) (k := 32) hf hd rfl (by decide) (by rw [hY]; exact q4534) kk
theorem GX35_96 {w : eW} {d : Nat} {Y : eY} {pc : Nat} {ls : eL} {st : List Value} {h : eH} {Q : eO → eH → Prop} {a : Nat} {x : Nat} (hf : g_A 34 h a 33 = some x) (hd : decode Y.2.1 pc = .ok (.getfield 96, 3)) (hY : Y.1.cls = RX35) (kk : wp w d Y (pc + 3) ls (.ref x :: st) h Q) : wp w d Y pc ls (.ref a :: st) h Q := x_gA (ci := 34) (k := 33) hf hd rfl (by decide) (by rw [hY]; exact q4535) kk
theorem GX35_99 {w : eW} {d : Nat} {Y : eY} {pc : Nat} {ls : eL} {st : List Value} {h : eH} {Q : eO → eH → Prop} {a : Nat} {x : Nat} (hf : g_A 34 h a 34 = some x) (hd : decode Y.2.1 pc = .ok (.getfield 99, 3)) (hY : Y.1.cls = RX35) (kk : wp w d Y (pc + 3) ls (.ref x :: st) h Q) : wp w d Y pc ls (.ref a :: st) h Q := x_gA (ci := 34) (k := 34) hf hd rfl (by decide) (by rw [hY]; exact q4536) kk
def fX35_call_b67 (N : Nat) (k7 : Nat → Int32 → Int32 → eH → Option (Unit × eH)) (l0 : Nat) (l1 : Int32) (l2 : Int32) (h : eH) : Option (Unit × eH) :=
  k7 l0 l1 (l2 + (1 : Int32)) h
theorem pX35_call_b67 {w : eW} {d : Nat} (hd : 7 ≤ d + 1) {N : Nat} {k7 : Nat → Int32 → Int32 → eH → Option (Unit × eH)} (hk7 : ∀ l0 l1 l2 h q, k7 l0 l1 l2 h = some q → wp w (d + 1) YX35_call 7 [some (.ref l0), some (.int l1), some (.int l2), none, none, none] [] h (e_is (e_rn c_V q))) {l0 : Nat} {l1 : Int32} {l2 : Int32} {h : eH} {q} (hf : fX35_call_b67 N k7 l0 l1 l2 h = some q) : wp w (d + 1) YX35_call 67 [some (.ref l0), some (.int l1), some (.int l2), none, none, none] [] h (e_is (e_rn c_V q)) := by
  unfold fX35_call_b67 at hf
  refine w_iinc dX35_call_67 (v := (l2 + (1 : Int32))) rfl rfl (by decide) (ls' := [some (.ref l0), some (.int l1), some (.int (l2 + (1 : Int32))), none, none, none]) rfl ?_
  refine w_goto 7 dX35_call_70 (by decide) ?_
  exact (hk7 _ _ _ _ _ hf).to ⟨rfl, rfl, rfl, trivial⟩
def fX35_call_b155 (N : Nat) (k75 : Nat → Int32 → Int32 → Int32 → eH → Option (Unit × eH)) (l0 : Nat) (l1 : Int32) (l3 : Int32) (l5 : Int32) (h : eH) : Option (Unit × eH) :=
  k75 l0 l1 l5 (l3 + (1 : Int32)) h
theorem pX35_call_b155 {w : eW} {d : Nat} (hd : 7 ≤ d + 1) {N : Nat} {k75 : Nat → Int32 → Int32 → Int32 → eH → Option (Unit × eH)} (hk75 : ∀ l0 l1 l2 l3 h q, k75 l0 l1 l2 l3 h = some q → wp w (d + 1) YX35_call 75 [some (.ref l0), some (.int l1), some (.int l2), some (.int l3), none, none] [] h (e_is (e_rn c_V q))) {l0 : Nat} {l1 : Int32} {l3 : Int32} {l5 : Int32} {h : eH} {q} (hf : fX35_call_b155 N k75 l0 l1 l3 l5 h = some q) : wp w (d + 1) YX35_call 155 [some (.ref l0), some (.int l1), none, some (.int l3), none, some (.int l5)] [] h (e_is (e_rn c_V q)) := by
  unfold fX35_call_b155 at hf
  refine w_iload dX35_call_155 rfl ?_
  refine w_istore_n dX35_call_157 rfl (by decide) (ls' := [some (.ref l0), some (.int l1), some (.int l5), some (.int l3), none, some (.int l5)]) rfl ?_
  refine w_iinc dX35_call_158 (v := (l3 + (1 : Int32))) rfl rfl (by decide) (ls' := [some (.ref l0), some (.int l1), some (.int l5), some (.int (l3 + (1 : Int32))), none, some (.int l5)]) rfl ?_
  refine w_goto 75 dX35_call_161 (by decide) ?_
  exact (hk75 _ _ _ _ _ _ hf).to ⟨rfl, rfl, rfl, rfl, trivial⟩
def fX35_call_b131 (N : Nat) (k75 : Nat → Int32 → Int32 → Int32 → eH → Option (Unit × eH)) (l0 : Nat) (l1 : Int32) (l3 : Int32) (l4 : Int32) (l5 : Int32) (h : eH) : Option (Unit × eH) :=
  if ¬ l4 = l5 then
    (k_ok 34 h l0).bind fun _ =>
    (fX35_takeUpTo N l0 l3 l4 l5 h).bind fun q3 =>
    fX35_call_b155 N k75 l0 l1 l3 l5 q3.2
  else
    (k_ok 34 h l0).bind fun _ =>
    (fX35_takeOne N l0 l3 h).bind fun q5 =>
    fX35_call_b155 N k75 l0 l1 l3 l5 q5.2
theorem pX35_call_b131 {w : eW} {d : Nat} (hd : 7 ≤ d + 1) {N : Nat} {k75 : Nat → Int32 → Int32 → Int32 → eH → Option (Unit × eH)} (hk75 : ∀ l0 l1 l2 l3 h q, k75 l0 l1 l2 l3 h = some q → wp w (d + 1) YX35_call 75 [some (.ref l0), some (.int l1), some (.int l2), some (.int l3), none, none] [] h (e_is (e_rn c_V q))) {l0 : Nat} {l1 : Int32} {l3 : Int32} {l4 : Int32} {l5 : Int32} {h : eH} {q} (hf : fX35_call_b131 N k75 l0 l1 l3 l4 l5 h = some q) : wp w (d + 1) YX35_call 131 [some (.ref l0), some (.int l1), none, some (.int l3), some (.int l4), some (.int l5)] [] h (e_is (e_rn c_V q)) := by
  unfold fX35_call_b131 at hf
  refine w_iload dX35_call_131 rfl ?_
  refine w_iload dX35_call_133 rfl ?_
  refine w_icmp_ne 146 dX35_call_135 (by decide) (fun c1 => ?_) (fun c1 => ?_)
  · replace hf := (if_pos (show ¬ l4 = l5 from c1)).symm.trans hf
    refine w_aload_n dX35_call_146 rfl rfl ?_
    refine w_iload_n dX35_call_147 rfl rfl ?_
    refine w_iload dX35_call_148 rfl ?_
    refine w_iload dX35_call_150 rfl ?_
    obtain ⟨_, b2, hf⟩ := Option.bind_eq_some_iff.mp hf
    refine x_cnV hf (e_stV (Yc := YX35_takeUpTo) (ci := 34) (av := [.int l3, .int l4, .int l5]) (st := []) dX35_call_152 q5169 mX35_takeUpTo rfl (k_ok_some b2).1 (k_ok_some b2).2) mX35_takeUpTo.2.2.1 mX35_takeUpTo.2.2.2.2.1 (Nat.le_of_ble_eq_true rfl) (Nat.le_of_ble_eq_true rfl) (fun q hq => pX35_takeUpTo (by omega) hq) (fun q3 hf => ?_)
    exact (pX35_call_b155 hd hk75 hf).to ⟨rfl, rfl, rfl, rfl, trivial⟩
  · replace hf := (if_neg (show ¬ (¬ l4 = l5) from (fun z => z c1))).symm.trans hf
    refine w_aload_n dX35_call_138 rfl rfl ?_
    refine w_iload_n dX35_call_139 rfl rfl ?_
    obtain ⟨_, b4, hf⟩ := Option.bind_eq_some_iff.mp hf
    refine x_cnV hf (e_stV (Yc := YX35_takeOne) (ci := 34) (av := [.int l3]) (st := []) dX35_call_140 q5162 mX35_takeOne rfl (k_ok_some b4).1 (k_ok_some b4).2) mX35_takeOne.2.2.1 mX35_takeOne.2.2.2.2.1 (Nat.le_of_ble_eq_true rfl) (Nat.le_of_ble_eq_true rfl) (fun q hq => pX35_takeOne (by omega) hq) (fun q5 hf => ?_)
    refine w_goto 155 dX35_call_143 (by decide) ?_
    exact (pX35_call_b155 hd hk75 hf).to ⟨rfl, rfl, rfl, rfl, trivial⟩
def fX35_call_b101 (N : Nat) (k75 : Nat → Int32 → Int32 → Int32 → eH → Option (Unit × eH)) : Nat → Nat → Int32 → Int32 → Int32 → Int32 → eH → Option (Unit × eH)
  | 0, _, _, _, _, _, _ => none
  | n + 1, l0, l1, l3, l4, l5, h =>
    (g_A 34 h l0 33).bind fun a1 =>
    (r_I 100 h a1 l1).bind fun x3 =>
    if x3 ≤ l5 then
      fX35_call_b131 N k75 l0 l1 l3 l4 l5 h
    else
      (g_A 34 h l0 36).bind fun a6 =>
      (r_I 100 h a6 l5).bind fun x8 =>
      if (262144 : Int32) ≤ x8 then
        fX35_call_b131 N k75 l0 l1 l3 l4 l5 h
      else
        fX35_call_b101 N k75 n l0 l1 l3 l4 (l5 + (1 : Int32)) h
theorem pX35_call_b101 {w : eW} {d : Nat} (hd : 7 ≤ d + 1) {N : Nat} {k75 : Nat → Int32 → Int32 → Int32 → eH → Option (Unit × eH)} (hk75 : ∀ l0 l1 l2 l3 h q, k75 l0 l1 l2 l3 h = some q → wp w (d + 1) YX35_call 75 [some (.ref l0), some (.int l1), some (.int l2), some (.int l3), none, none] [] h (e_is (e_rn c_V q))) : ∀ (n : Nat) l0 l1 l3 l4 l5 h q, fX35_call_b101 N k75 n l0 l1 l3 l4 l5 h = some q → wp w (d + 1) YX35_call 101 [some (.ref l0), some (.int l1), none, some (.int l3), some (.int l4), some (.int l5)] [] h (e_is (e_rn c_V q)) := by
  intro n
  induction n with
  | zero => intro l0 l1 l3 l4 l5 h q hf; simp [fX35_call_b101] at hf
  | succ n ih =>
    intro l0 l1 l3 l4 l5 h q hf
    rw [fX35_call_b101] at hf
    refine w_iload dX35_call_101 rfl ?_
    refine w_aload_n dX35_call_103 rfl rfl ?_
    obtain ⟨a1, b2, hf⟩ := Option.bind_eq_some_iff.mp hf
    refine GX35_96 b2 dX35_call_104 rfl ?_
    refine w_iload_n dX35_call_107 rfl rfl ?_
    obtain ⟨x3, b4, hf⟩ := Option.bind_eq_some_iff.mp hf
    refine x_rI b4 dX35_call_108 ?_
    refine w_icmp_ge 131 dX35_call_109 (by decide) (fun c5 => ?_) (fun c5 => ?_)
    · replace hf := (if_pos (show x3 ≤ l5 from c5)).symm.trans hf
      exact (pX35_call_b131 hd hk75 hf).to ⟨rfl, rfl, rfl, rfl, rfl, trivial⟩
    · replace hf := (if_neg (show ¬ (x3 ≤ l5) from c5)).symm.trans hf
      refine w_aload_n dX35_call_112 rfl rfl ?_
      obtain ⟨a6, b7, hf⟩ := Option.bind_eq_some_iff.mp hf
      refine GX35_102 b7 dX35_call_113 rfl ?_
      refine w_iload dX35_call_116 rfl ?_
      obtain ⟨x8, b9, hf⟩ := Option.bind_eq_some_iff.mp hf
      refine x_rI b9 dX35_call_118 ?_
      refine w_ldc_w dX35_call_119 q4487 ?_
      refine w_icmp_ge 131 dX35_call_122 (by decide) (fun c10 => ?_) (fun c10 => ?_)
      · replace hf := (if_pos (show (262144 : Int32) ≤ x8 from c10)).symm.trans hf
        exact (pX35_call_b131 hd hk75 hf).to ⟨rfl, rfl, rfl, rfl, rfl, trivial⟩
      · replace hf := (if_neg (show ¬ ((262144 : Int32) ≤ x8) from c10)).symm.trans hf
        refine w_iinc dX35_call_125 (v := (l5 + (1 : Int32))) rfl rfl (by decide) (ls' := [some (.ref l0), some (.int l1), none, some (.int l3), some (.int l4), some (.int (l5 + (1 : Int32)))]) rfl ?_
        refine w_goto 101 dX35_call_128 (by decide) ?_
        exact (ih _ _ _ _ _ _ _ hf).to ⟨rfl, rfl, rfl, rfl, rfl, trivial⟩
def fX35_call_b276 (N : Nat) (k173 : Nat → Int32 → Int32 → eH → Option (Unit × eH)) (l0 : Nat) (l1 : Int32) (l3 : Int32) (h : eH) : Option (Unit × eH) :=
  k173 l0 l1 (l3 + (-1 : Int32)) h
theorem pX35_call_b276 {w : eW} {d : Nat} (hd : 7 ≤ d + 1) {N : Nat} {k173 : Nat → Int32 → Int32 → eH → Option (Unit × eH)} (hk173 : ∀ l0 l1 l3 h q, k173 l0 l1 l3 h = some q → wp w (d + 1) YX35_call 173 [some (.ref l0), some (.int l1), none, some (.int l3), none, none] [] h (e_is (e_rn c_V q))) {l0 : Nat} {l1 : Int32} {l3 : Int32} {h : eH} {q} (hf : fX35_call_b276 N k173 l0 l1 l3 h = some q) : wp w (d + 1) YX35_call 276 [some (.ref l0), some (.int l1), none, some (.int l3), none, none] [] h (e_is (e_rn c_V q)) := by
  unfold fX35_call_b276 at hf
  refine w_iinc dX35_call_276 (v := (l3 + (-1 : Int32))) rfl rfl (by decide) (ls' := [some (.ref l0), some (.int l1), none, some (.int (l3 + (-1 : Int32))), none, none]) rfl ?_
  refine w_goto 173 dX35_call_279 (by decide) ?_
  exact (hk173 _ _ _ _ _ hf).to ⟨rfl, rfl, rfl, trivial⟩
def fX35_call_b240 (N : Nat) (k173 : Nat → Int32 → Int32 → eH → Option (Unit × eH)) : Nat → Nat → Int32 → Int32 → Int32 → Int32 → eH → Option (Unit × eH)
  | 0, _, _, _, _, _, _ => none
  | n + 1, l0, l1, l3, l4, l5, h =>
    if l5 < 0 then
      fX35_call_b276 N k173 l0 l1 l3 h
    else
      (g_I 34 h l0 46).bind fun x2 =>
      if ¬ x2 = 0 then
        fX35_call_b276 N k173 l0 l1 l3 h
      else
        (g_A 34 h l0 39).bind fun a5 =>
        (r_I 100 h a5 (((11000 : Int32) * l4) + l5)).bind fun x7 =>
        (k_ok 34 h l0).bind fun _ =>
        (fX35_putOfBody l0 x7 h).bind fun q10 =>
        fX35_call_b240 N k173 n l0 l1 l3 l4 (l5 + (-1 : Int32)) q10.2
theorem pX35_call_b240 {w : eW} {d : Nat} (hd : 7 ≤ d + 1) {N : Nat} {k173 : Nat → Int32 → Int32 → eH → Option (Unit × eH)} (hk173 : ∀ l0 l1 l3 h q, k173 l0 l1 l3 h = some q → wp w (d + 1) YX35_call 173 [some (.ref l0), some (.int l1), none, some (.int l3), none, none] [] h (e_is (e_rn c_V q))) : ∀ (n : Nat) l0 l1 l3 l4 l5 h q, fX35_call_b240 N k173 n l0 l1 l3 l4 l5 h = some q → wp w (d + 1) YX35_call 240 [some (.ref l0), some (.int l1), none, some (.int l3), some (.int l4), some (.int l5)] [] h (e_is (e_rn c_V q)) := by
  intro n
  induction n with
  | zero => intro l0 l1 l3 l4 l5 h q hf; simp [fX35_call_b240] at hf
  | succ n ih =>
    intro l0 l1 l3 l4 l5 h q hf
    rw [fX35_call_b240] at hf
    refine w_iload dX35_call_240 rfl ?_
    refine w_if_lt 276 dX35_call_242 (by decide) (fun c1 => ?_) (fun c1 => ?_)
    · replace hf := (if_pos (show l5 < 0 from c1)).symm.trans hf
      exact (pX35_call_b276 hd hk173 hf).to ⟨rfl, rfl, rfl, trivial⟩
    · replace hf := (if_neg (show ¬ (l5 < 0) from c1)).symm.trans hf
      refine w_aload_n dX35_call_245 rfl rfl ?_
      obtain ⟨x2, b3, hf⟩ := Option.bind_eq_some_iff.mp hf
      refine GX35_321 b3 dX35_call_246 rfl ?_
      refine w_if_ne 276 dX35_call_249 (by decide) (fun c4 => ?_) (fun c4 => ?_)
      · replace hf := (if_pos (show ¬ x2 = 0 from c4)).symm.trans hf
        exact (pX35_call_b276 hd hk173 hf).to ⟨rfl, rfl, rfl, trivial⟩
      · replace hf := (if_neg (show ¬ (¬ x2 = 0) from (fun z => z c4))).symm.trans hf
        refine w_aload_n dX35_call_252 rfl rfl ?_
        refine w_aload_n dX35_call_253 rfl rfl ?_
        obtain ⟨a5, b6, hf⟩ := Option.bind_eq_some_iff.mp hf
        refine GX35_109 b6 dX35_call_254 rfl ?_
        refine w_sipush dX35_call_257 (v := 11000) (by decide) ?_
        refine w_iload dX35_call_260 rfl ?_
        refine w_imul dX35_call_262 ?_
        refine w_iload dX35_call_263 rfl ?_
        refine w_iadd dX35_call_265 ?_
        obtain ⟨x7, b8, hf⟩ := Option.bind_eq_some_iff.mp hf
        refine x_rI b8 dX35_call_266 ?_
        obtain ⟨_, b9, hf⟩ := Option.bind_eq_some_iff.mp hf
        refine x_cnV hf (e_stV (Yc := YX35_putOfBody) (ci := 34) (av := [.int x7]) (st := []) dX35_call_267 q5177 mX35_putOfBody rfl (k_ok_some b9).1 (k_ok_some b9).2) mX35_putOfBody.2.2.1 mX35_putOfBody.2.2.2.2.1 (Nat.le_of_ble_eq_true rfl) (Nat.le_of_ble_eq_true rfl) (fun q hq => pX35_putOfBody (by omega) hq) (fun q10 hf => ?_)
        refine w_iinc dX35_call_270 (v := (l5 + (-1 : Int32))) rfl rfl (by decide) (ls' := [some (.ref l0), some (.int l1), none, some (.int l3), some (.int l4), some (.int (l5 + (-1 : Int32)))]) rfl ?_
        refine w_goto 240 dX35_call_273 (by decide) ?_
        exact (ih _ _ _ _ _ _ _ hf).to ⟨rfl, rfl, rfl, rfl, rfl, trivial⟩
def fX35_call_b282 (N : Nat)  (h : eH) : Option (Unit × eH) :=
  some ((), h)
theorem pX35_call_b282 {w : eW} {d : Nat} (hd : 7 ≤ d + 1) {N : Nat}  {h : eH} {q} (hf : fX35_call_b282 N h = some q) : wp w (d + 1) YX35_call 282 [none, none, none, none, none, none] [] h (e_is (e_rn c_V q)) := by
  unfold fX35_call_b282 at hf
  cases hf
  exact w_vret dX35_call_282 rfl rfl
def fX35_call_b173 (N : Nat) : Nat → Nat → Int32 → Int32 → eH → Option (Unit × eH)
  | 0, _, _, _, _ => none
  | n + 1, l0, l1, l3, h =>
    (g_A 34 h l0 33).bind fun a1 =>
    (r_I 100 h a1 l1).bind fun x3 =>
    if l3 < x3 then
      fX35_call_b282 N h
    else
      (g_I 34 h l0 46).bind fun x6 =>
      if ¬ x6 = 0 then
        fX35_call_b282 N h
      else
        (g_A 34 h l0 36).bind fun a9 =>
        (r_I 100 h a9 l3).bind fun x11 =>
        if (262144 : Int32) ≤ x11 then
          (g_A 34 h l0 36).bind fun a14 =>
          (r_I 100 h a14 l3).bind fun x16 =>
          (g_A 34 h l0 40).bind fun a18 =>
          (r_I 100 h a18 ((x16 - (262144 : Int32)) - (1 : Int32))).bind fun x20 =>
          fX35_call_b240 N (fX35_call_b173 N n) N l0 l1 l3 ((x16 - (262144 : Int32)) - (1 : Int32)) (x20 - (1 : Int32)) h
        else
          (g_A 34 h l0 36).bind fun a22 =>
          (r_I 100 h a22 l3).bind fun x24 =>
          (k_ok 34 h l0).bind fun _ =>
          (fX35_putOfBody l0 x24 h).bind fun q27 =>
          fX35_call_b276 N (fX35_call_b173 N n) l0 l1 l3 q27.2
theorem pX35_call_b173 {w : eW} {d : Nat} (hd : 7 ≤ d + 1) {N : Nat} : ∀ (n : Nat) l0 l1 l3 h q, fX35_call_b173 N n l0 l1 l3 h = some q → wp w (d + 1) YX35_call 173 [some (.ref l0), some (.int l1), none, some (.int l3), none, none] [] h (e_is (e_rn c_V q)) := by
  intro n
  induction n with
  | zero => intro l0 l1 l3 h q hf; simp [fX35_call_b173] at hf
  | succ n ih =>
    intro l0 l1 l3 h q hf
    rw [fX35_call_b173] at hf
    refine w_iload_n dX35_call_173 rfl rfl ?_
    refine w_aload_n dX35_call_174 rfl rfl ?_
    obtain ⟨a1, b2, hf⟩ := Option.bind_eq_some_iff.mp hf
    refine GX35_96 b2 dX35_call_175 rfl ?_
    refine w_iload_n dX35_call_178 rfl rfl ?_
    obtain ⟨x3, b4, hf⟩ := Option.bind_eq_some_iff.mp hf
    refine x_rI b4 dX35_call_179 ?_
    refine w_icmp_lt 282 dX35_call_180 (by decide) (fun c5 => ?_) (fun c5 => ?_)
    · replace hf := (if_pos (show l3 < x3 from c5)).symm.trans hf
      exact (pX35_call_b282 hd hf).to trivial
    · replace hf := (if_neg (show ¬ (l3 < x3) from c5)).symm.trans hf
      refine w_aload_n dX35_call_183 rfl rfl ?_
      obtain ⟨x6, b7, hf⟩ := Option.bind_eq_some_iff.mp hf
      refine GX35_321 b7 dX35_call_184 rfl ?_
      refine w_if_ne 282 dX35_call_187 (by decide) (fun c8 => ?_) (fun c8 => ?_)
      · replace hf := (if_pos (show ¬ x6 = 0 from c8)).symm.trans hf
        exact (pX35_call_b282 hd hf).to trivial
      · replace hf := (if_neg (show ¬ (¬ x6 = 0) from (fun z => z c8))).symm.trans hf
        refine w_aload_n dX35_call_190 rfl rfl ?_
        obtain ⟨a9, b10, hf⟩ := Option.bind_eq_some_iff.mp hf
        refine GX35_102 b10 dX35_call_191 rfl ?_
        refine w_iload_n dX35_call_194 rfl rfl ?_
        obtain ⟨x11, b12, hf⟩ := Option.bind_eq_some_iff.mp hf
        refine x_rI b12 dX35_call_195 ?_
        refine w_ldc_w dX35_call_196 q4487 ?_
        refine w_icmp_ge 215 dX35_call_199 (by decide) (fun c13 => ?_) (fun c13 => ?_)
        · replace hf := (if_pos (show (262144 : Int32) ≤ x11 from c13)).symm.trans hf
          refine w_aload_n dX35_call_215 rfl rfl ?_
          obtain ⟨a14, b15, hf⟩ := Option.bind_eq_some_iff.mp hf
          refine GX35_102 b15 dX35_call_216 rfl ?_
          refine w_iload_n dX35_call_219 rfl rfl ?_
          obtain ⟨x16, b17, hf⟩ := Option.bind_eq_some_iff.mp hf
          refine x_rI b17 dX35_call_220 ?_
          refine w_ldc_w dX35_call_221 q4487 ?_
          refine w_isub dX35_call_224 ?_
          refine w_iconst dX35_call_225 (v := 1) (by decide) ?_
          refine w_isub dX35_call_226 ?_
          refine w_istore dX35_call_227 (by decide) (ls' := [some (.ref l0), some (.int l1), none, some (.int l3), some (.int ((x16 - (262144 : Int32)) - (1 : Int32))), none]) rfl ?_
          refine w_aload_n dX35_call_229 rfl rfl ?_
          obtain ⟨a18, b19, hf⟩ := Option.bind_eq_some_iff.mp hf
          refine GX35_112 b19 dX35_call_230 rfl ?_
          refine w_iload dX35_call_233 rfl ?_
          obtain ⟨x20, b21, hf⟩ := Option.bind_eq_some_iff.mp hf
          refine x_rI b21 dX35_call_235 ?_
          refine w_iconst dX35_call_236 (v := 1) (by decide) ?_
          refine w_isub dX35_call_237 ?_
          refine w_istore dX35_call_238 (by decide) (ls' := [some (.ref l0), some (.int l1), none, some (.int l3), some (.int ((x16 - (262144 : Int32)) - (1 : Int32))), some (.int (x20 - (1 : Int32)))]) rfl ?_
          exact (pX35_call_b240 hd ih N _ _ _ _ _ _ _ hf).to ⟨rfl, rfl, rfl, rfl, rfl, trivial⟩
        · replace hf := (if_neg (show ¬ ((262144 : Int32) ≤ x11) from c13)).symm.trans hf
          refine w_aload_n dX35_call_202 rfl rfl ?_
          refine w_aload_n dX35_call_203 rfl rfl ?_
          obtain ⟨a22, b23, hf⟩ := Option.bind_eq_some_iff.mp hf
          refine GX35_102 b23 dX35_call_204 rfl ?_
          refine w_iload_n dX35_call_207 rfl rfl ?_
          obtain ⟨x24, b25, hf⟩ := Option.bind_eq_some_iff.mp hf
          refine x_rI b25 dX35_call_208 ?_
          obtain ⟨_, b26, hf⟩ := Option.bind_eq_some_iff.mp hf
          refine x_cnV hf (e_stV (Yc := YX35_putOfBody) (ci := 34) (av := [.int x24]) (st := []) dX35_call_209 q5177 mX35_putOfBody rfl (k_ok_some b26).1 (k_ok_some b26).2) mX35_putOfBody.2.2.1 mX35_putOfBody.2.2.2.2.1 (Nat.le_of_ble_eq_true rfl) (Nat.le_of_ble_eq_true rfl) (fun q hq => pX35_putOfBody (by omega) hq) (fun q27 hf => ?_)
          refine w_goto 276 dX35_call_212 (by decide) ?_
          exact (pX35_call_b276 hd ih hf).to ⟨rfl, rfl, rfl, trivial⟩
def fX35_call_b164 (N : Nat) (l0 : Nat) (l1 : Int32) (h : eH) : Option (Unit × eH) :=
  (g_A 34 h l0 34).bind fun a1 =>
  (r_I 100 h a1 l1).bind fun x3 =>
  fX35_call_b173 N N l0 l1 (x3 - (1 : Int32)) h
theorem pX35_call_b164 {w : eW} {d : Nat} (hd : 7 ≤ d + 1) {N : Nat} {l0 : Nat} {l1 : Int32} {h : eH} {q} (hf : fX35_call_b164 N l0 l1 h = some q) : wp w (d + 1) YX35_call 164 [some (.ref l0), some (.int l1), none, none, none, none] [] h (e_is (e_rn c_V q)) := by
  unfold fX35_call_b164 at hf
  refine w_aload_n dX35_call_164 rfl rfl ?_
  obtain ⟨a1, b2, hf⟩ := Option.bind_eq_some_iff.mp hf
  refine GX35_99 b2 dX35_call_165 rfl ?_
  refine w_iload_n dX35_call_168 rfl rfl ?_
  obtain ⟨x3, b4, hf⟩ := Option.bind_eq_some_iff.mp hf
  refine x_rI b4 dX35_call_169 ?_
  refine w_iconst dX35_call_170 (v := 1) (by decide) ?_
  refine w_isub dX35_call_171 ?_
  refine w_istore_n dX35_call_172 rfl (by decide) (ls' := [some (.ref l0), some (.int l1), none, some (.int (x3 - (1 : Int32))), none, none]) rfl ?_
  exact (pX35_call_b173 hd N _ _ _ _ _ hf).to ⟨rfl, rfl, rfl, trivial⟩
def fX35_call_b75 (N : Nat) : Nat → Nat → Int32 → Int32 → Int32 → eH → Option (Unit × eH)
  | 0, _, _, _, _, _ => none
  | n + 1, l0, l1, l2, l3, h =>
    (g_A 34 h l0 31).bind fun a1 =>
    (r_I 100 h a1 l1).bind fun x3 =>
    if x3 ≤ l3 then
      fX35_call_b164 N l0 l1 h
    else
      (g_I 34 h l0 46).bind fun x6 =>
      if ¬ x6 = 0 then
        fX35_call_b164 N l0 l1 h
      else
        fX35_call_b101 N (fX35_call_b75 N n) N l0 l1 l3 (l2 + (1 : Int32)) (l2 + (1 : Int32)) h
theorem pX35_call_b75 {w : eW} {d : Nat} (hd : 7 ≤ d + 1) {N : Nat} : ∀ (n : Nat) l0 l1 l2 l3 h q, fX35_call_b75 N n l0 l1 l2 l3 h = some q → wp w (d + 1) YX35_call 75 [some (.ref l0), some (.int l1), some (.int l2), some (.int l3), none, none] [] h (e_is (e_rn c_V q)) := by
  intro n
  induction n with
  | zero => intro l0 l1 l2 l3 h q hf; simp [fX35_call_b75] at hf
  | succ n ih =>
    intro l0 l1 l2 l3 h q hf
    rw [fX35_call_b75] at hf
    refine w_iload_n dX35_call_75 rfl rfl ?_
    refine w_aload_n dX35_call_76 rfl rfl ?_
    obtain ⟨a1, b2, hf⟩ := Option.bind_eq_some_iff.mp hf
    refine GX35_90 b2 dX35_call_77 rfl ?_
    refine w_iload_n dX35_call_80 rfl rfl ?_
    obtain ⟨x3, b4, hf⟩ := Option.bind_eq_some_iff.mp hf
    refine x_rI b4 dX35_call_81 ?_
    refine w_icmp_ge 164 dX35_call_82 (by decide) (fun c5 => ?_) (fun c5 => ?_)
    · replace hf := (if_pos (show x3 ≤ l3 from c5)).symm.trans hf
      exact (pX35_call_b164 hd hf).to ⟨rfl, rfl, trivial⟩
    · replace hf := (if_neg (show ¬ (x3 ≤ l3) from c5)).symm.trans hf
      refine w_aload_n dX35_call_85 rfl rfl ?_
      obtain ⟨x6, b7, hf⟩ := Option.bind_eq_some_iff.mp hf
      refine GX35_321 b7 dX35_call_86 rfl ?_
      refine w_if_ne 164 dX35_call_89 (by decide) (fun c8 => ?_) (fun c8 => ?_)
      · replace hf := (if_pos (show ¬ x6 = 0 from c8)).symm.trans hf
        exact (pX35_call_b164 hd hf).to ⟨rfl, rfl, trivial⟩
      · replace hf := (if_neg (show ¬ (¬ x6 = 0) from (fun z => z c8))).symm.trans hf
        refine w_iload_n dX35_call_92 rfl rfl ?_
        refine w_iconst dX35_call_93 (v := 1) (by decide) ?_
        refine w_iadd dX35_call_94 ?_
        refine w_istore dX35_call_95 (by decide) (ls' := [some (.ref l0), some (.int l1), some (.int l2), some (.int l3), some (.int (l2 + (1 : Int32))), none]) rfl ?_
        refine w_iload dX35_call_97 rfl ?_
        refine w_istore dX35_call_99 (by decide) (ls' := [some (.ref l0), some (.int l1), some (.int l2), some (.int l3), some (.int (l2 + (1 : Int32))), some (.int (l2 + (1 : Int32)))]) rfl ?_
        exact (pX35_call_b101 hd ih N _ _ _ _ _ _ _ hf).to ⟨rfl, rfl, rfl, rfl, rfl, trivial⟩
def fX35_call_b73 (N : Nat) (l0 : Nat) (l1 : Int32) (l2 : Int32) (h : eH) : Option (Unit × eH) :=
  fX35_call_b75 N N l0 l1 l2 (0 : Int32) h
theorem pX35_call_b73 {w : eW} {d : Nat} (hd : 7 ≤ d + 1) {N : Nat} {l0 : Nat} {l1 : Int32} {l2 : Int32} {h : eH} {q} (hf : fX35_call_b73 N l0 l1 l2 h = some q) : wp w (d + 1) YX35_call 73 [some (.ref l0), some (.int l1), some (.int l2), none, none, none] [] h (e_is (e_rn c_V q)) := by
  unfold fX35_call_b73 at hf
  refine w_iconst dX35_call_73 (v := 0) (by decide) ?_
  refine w_istore_n dX35_call_74 rfl (by decide) (ls' := [some (.ref l0), some (.int l1), some (.int l2), some (.int (0 : Int32)), none, none]) rfl ?_
  exact (pX35_call_b75 hd N _ _ _ _ _ _ hf).to ⟨rfl, rfl, rfl, rfl, trivial⟩
def fX35_call_b7 (N : Nat) : Nat → Nat → Int32 → Int32 → eH → Option (Unit × eH)
  | 0, _, _, _, _ => none
  | n + 1, l0, l1, l2, h =>
    (g_I 34 h l0 46).bind fun x1 =>
    if ¬ x1 = 0 then
      fX35_call_b73 N l0 l1 l2 h
    else
      (g_A 34 h l0 33).bind fun a4 =>
      (r_I 100 h a4 l1).bind fun x6 =>
      if x6 ≤ l2 then
        fX35_call_b73 N l0 l1 l2 h
      else
        (g_A 34 h l0 36).bind fun a9 =>
        (r_I 100 h a9 l2).bind fun x11 =>
        if (262144 : Int32) ≤ x11 then
          fX35_call_b73 N l0 l1 l2 h
        else
          (k_ok 34 h l0).bind fun _ =>
          (fX35_need N l0 h).bind fun q15 =>
          (g_I 34 q15.2 l0 46).bind fun x16 =>
          if ¬ x16 = 0 then
            fX35_call_b67 N (fX35_call_b7 N n) l0 l1 l2 q15.2
          else
            (g_A 34 q15.2 l0 36).bind fun a19 =>
            (r_I 100 q15.2 a19 l2).bind fun x21 =>
            (k_ok 34 q15.2 l0).bind fun _ =>
            (fX35_isSame l0 q15.1 x21 q15.2).bind fun q24 =>
            if ¬ q24.1 = 0 then
              fX35_call_b67 N (fX35_call_b7 N n) l0 l1 l2 q24.2
            else
              (k_ok 34 q24.2 l0).bind fun _ =>
              (fX35_fail l0 (4 : Int32) q24.2).bind fun q27 =>
              fX35_call_b67 N (fX35_call_b7 N n) l0 l1 l2 q27.2
theorem pX35_call_b7 {w : eW} {d : Nat} (hd : 7 ≤ d + 1) {N : Nat} : ∀ (n : Nat) l0 l1 l2 h q, fX35_call_b7 N n l0 l1 l2 h = some q → wp w (d + 1) YX35_call 7 [some (.ref l0), some (.int l1), some (.int l2), none, none, none] [] h (e_is (e_rn c_V q)) := by
  intro n
  induction n with
  | zero => intro l0 l1 l2 h q hf; simp [fX35_call_b7] at hf
  | succ n ih =>
    intro l0 l1 l2 h q hf
    rw [fX35_call_b7] at hf
    refine w_aload_n dX35_call_7 rfl rfl ?_
    obtain ⟨x1, b2, hf⟩ := Option.bind_eq_some_iff.mp hf
    refine GX35_321 b2 dX35_call_8 rfl ?_
    refine w_if_ne 73 dX35_call_11 (by decide) (fun c3 => ?_) (fun c3 => ?_)
    · replace hf := (if_pos (show ¬ x1 = 0 from c3)).symm.trans hf
      exact (pX35_call_b73 hd hf).to ⟨rfl, rfl, rfl, trivial⟩
    · replace hf := (if_neg (show ¬ (¬ x1 = 0) from (fun z => z c3))).symm.trans hf
      refine w_iload_n dX35_call_14 rfl rfl ?_
      refine w_aload_n dX35_call_15 rfl rfl ?_
      obtain ⟨a4, b5, hf⟩ := Option.bind_eq_some_iff.mp hf
      refine GX35_96 b5 dX35_call_16 rfl ?_
      refine w_iload_n dX35_call_19 rfl rfl ?_
      obtain ⟨x6, b7, hf⟩ := Option.bind_eq_some_iff.mp hf
      refine x_rI b7 dX35_call_20 ?_
      refine w_icmp_ge 73 dX35_call_21 (by decide) (fun c8 => ?_) (fun c8 => ?_)
      · replace hf := (if_pos (show x6 ≤ l2 from c8)).symm.trans hf
        exact (pX35_call_b73 hd hf).to ⟨rfl, rfl, rfl, trivial⟩
      · replace hf := (if_neg (show ¬ (x6 ≤ l2) from c8)).symm.trans hf
        refine w_aload_n dX35_call_24 rfl rfl ?_
        obtain ⟨a9, b10, hf⟩ := Option.bind_eq_some_iff.mp hf
        refine GX35_102 b10 dX35_call_25 rfl ?_
        refine w_iload_n dX35_call_28 rfl rfl ?_
        obtain ⟨x11, b12, hf⟩ := Option.bind_eq_some_iff.mp hf
        refine x_rI b12 dX35_call_29 ?_
        refine w_ldc_w dX35_call_30 q4487 ?_
        refine w_icmp_ge 73 dX35_call_33 (by decide) (fun c13 => ?_) (fun c13 => ?_)
        · replace hf := (if_pos (show (262144 : Int32) ≤ x11 from c13)).symm.trans hf
          exact (pX35_call_b73 hd hf).to ⟨rfl, rfl, rfl, trivial⟩
        · replace hf := (if_neg (show ¬ ((262144 : Int32) ≤ x11) from c13)).symm.trans hf
          refine w_aload_n dX35_call_36 rfl rfl ?_
          obtain ⟨_, b14, hf⟩ := Option.bind_eq_some_iff.mp hf
          refine x_cnI hf (e_stV (Yc := YX35_need) (ci := 34) (av := []) (st := []) dX35_call_37 q5154 mX35_need rfl (k_ok_some b14).1 (k_ok_some b14).2) mX35_need.2.2.1 mX35_need.2.2.2.2.1 (Nat.le_of_ble_eq_true rfl) (Nat.le_of_ble_eq_true rfl) (fun q hq => pX35_need (by omega) hq) (fun q15 hf => ?_)
          refine w_istore_n dX35_call_40 rfl (by decide) (ls' := [some (.ref l0), some (.int l1), some (.int l2), some (.int q15.1), none, none]) rfl ?_
          refine w_aload_n dX35_call_41 rfl rfl ?_
          obtain ⟨x16, b17, hf⟩ := Option.bind_eq_some_iff.mp hf
          refine GX35_321 b17 dX35_call_42 rfl ?_
          refine w_if_ne 67 dX35_call_45 (by decide) (fun c18 => ?_) (fun c18 => ?_)
          · replace hf := (if_pos (show ¬ x16 = 0 from c18)).symm.trans hf
            exact (pX35_call_b67 hd ih hf).to ⟨rfl, rfl, rfl, trivial⟩
          · replace hf := (if_neg (show ¬ (¬ x16 = 0) from (fun z => z c18))).symm.trans hf
            refine w_aload_n dX35_call_48 rfl rfl ?_
            refine w_iload_n dX35_call_49 rfl rfl ?_
            refine w_aload_n dX35_call_50 rfl rfl ?_
            obtain ⟨a19, b20, hf⟩ := Option.bind_eq_some_iff.mp hf
            refine GX35_102 b20 dX35_call_51 rfl ?_
            refine w_iload_n dX35_call_54 rfl rfl ?_
            obtain ⟨x21, b22, hf⟩ := Option.bind_eq_some_iff.mp hf
            refine x_rI b22 dX35_call_55 ?_
            obtain ⟨_, b23, hf⟩ := Option.bind_eq_some_iff.mp hf
            refine x_cnI hf (e_stV (Yc := YX35_isSame) (ci := 34) (av := [.int q15.1, .int x21]) (st := []) dX35_call_56 q5158 mX35_isSame rfl (k_ok_some b23).1 (k_ok_some b23).2) mX35_isSame.2.2.1 mX35_isSame.2.2.2.2.1 (Nat.le_of_ble_eq_true rfl) (Nat.le_of_ble_eq_true rfl) (fun q hq => pX35_isSame (by omega) hq) (fun q24 hf => ?_)
            refine w_if_ne 67 dX35_call_59 (by decide) (fun c25 => ?_) (fun c25 => ?_)
            · replace hf := (if_pos (show ¬ q24.1 = 0 from c25)).symm.trans hf
              exact (pX35_call_b67 hd ih hf).to ⟨rfl, rfl, rfl, trivial⟩
            · replace hf := (if_neg (show ¬ (¬ q24.1 = 0) from (fun z => z c25))).symm.trans hf
              refine w_aload_n dX35_call_62 rfl rfl ?_
              refine w_iconst dX35_call_63 (v := 4) (by decide) ?_
              obtain ⟨_, b26, hf⟩ := Option.bind_eq_some_iff.mp hf
              refine x_cnV hf (e_stV (Yc := YX35_fail) (ci := 34) (av := [.int (4 : Int32)]) (st := []) dX35_call_64 q5109 mX35_fail rfl (k_ok_some b26).1 (k_ok_some b26).2) mX35_fail.2.2.1 mX35_fail.2.2.2.2.1 (Nat.le_of_ble_eq_true rfl) (Nat.le_of_ble_eq_true rfl) (fun q hq => pX35_fail (by omega) hq) (fun q27 hf => ?_)
              exact (pX35_call_b67 hd ih hf).to ⟨rfl, rfl, rfl, trivial⟩
def fX35_call (N : Nat) (this : Nat) (p0 : Int32) (h : eH) : Option (Unit × eH) :=
  (g_A 34 h this 32).bind fun a1 =>
  (r_I 100 h a1 p0).bind fun x3 =>
  fX35_call_b7 N N this p0 x3 h
theorem pX35_call {w : eW} {d : Nat} (hd : 7 ≤ d) {N : Nat} {this : Nat} {p0 : Int32} {h : eH} {q} (hf : fX35_call N this p0 h = some q) : wm w d YX35_call [.ref this, .int p0] h (e_is (e_rn c_V q)) := by
  obtain ⟨d, rfl⟩ : ∃ e, d = e + 1 := ⟨d - 1, by omega⟩
  show wp w (d + 1) YX35_call 0 [some (.ref this), some (.int p0), none, none, none, none] [] h _
  unfold fX35_call at hf
  refine w_aload_n dX35_call_0 rfl rfl ?_
  obtain ⟨a1, b2, hf⟩ := Option.bind_eq_some_iff.mp hf
  refine GX35_93 b2 dX35_call_1 rfl ?_
  refine w_iload_n dX35_call_4 rfl rfl ?_
  obtain ⟨x3, b4, hf⟩ := Option.bind_eq_some_iff.mp hf
  refine x_rI b4 dX35_call_5 ?_
  refine w_istore_n dX35_call_6 rfl (by decide) (ls' := [some (.ref this), some (.int p0), some (.int x3), none, none, none]) rfl ?_
  exact (pX35_call_b7 hd N _ _ _ _ _ hf).to ⟨rfl, rfl, rfl, trivial⟩
abbrev cX35_metrics : ByteArray := prog_37_method_115_code
def yX35_metrics : MethodName := ⟨RX35, "metrics", "(I)LTypeHouseModel$Metrics;"⟩
def YX35_metrics : eY := (yX35_metrics, cX35_metrics, 2, (Option.some (FieldType.object "TypeHouseModel$Metrics")), [])
theorem mX35_metrics : e_mv YX35_metrics RX35 1 := ⟨q5669, qs352, q5670, by decide, by decide +kernel, (e_sig (by decide +kernel))⟩
theorem dX35_metrics_0 : decode cX35_metrics 0 = .ok (.aload_n 0, 1) := dc_42 (by decide +kernel)
theorem dX35_metrics_1 : decode cX35_metrics 1 = .ok (.getfield 21, 3) := dc_180 (a := 0) (b := 21) (n := 21) (by decide +kernel)
theorem dX35_metrics_4 : decode cX35_metrics 4 = .ok (.aload_n 0, 1) := dc_42 (by decide +kernel)
theorem dX35_metrics_5 : decode cX35_metrics 5 = .ok (.getfield 121, 3) := dc_180 (a := 0) (b := 121) (n := 121) (by decide +kernel)
theorem dX35_metrics_8 : decode cX35_metrics 8 = .ok (.iload_n 1, 1) := dc_27 (by decide +kernel)
theorem dX35_metrics_9 : decode cX35_metrics 9 = .ok (.iaload, 1) := dc_46 (by decide +kernel)
theorem dX35_metrics_10 : decode cX35_metrics 10 = .ok (.aaload, 1) := dc_50 (by decide +kernel)
theorem dX35_metrics_11 : decode cX35_metrics 11 = .ok (.areturn, 1) := dc_176 (by decide +kernel)
theorem GX35_121 {w : eW} {d : Nat} {Y : eY} {pc : Nat} {ls : eL} {st : List Value} {h : eH} {Q : eO → eH → Prop} {a : Nat} {x : Nat} (hf : g_A 34 h a 49 = some x) (hd : decode Y.2.1 pc = .ok (.getfield 121, 3)) (hY : Y.1.cls = RX35) (kk : wp w d Y (pc + 3) ls (.ref x :: st) h Q) : wp w d Y pc ls (.ref a :: st) h Q := x_gA (ci := 34) (k := 49) hf hd rfl (by decide) (by rw [hY]; exact q4551) kk
theorem GX35_21 {w : eW} {d : Nat} {Y : eY} {pc : Nat} {ls : eL} {st : List Value} {h : eH} {Q : eO → eH → Prop} {a : Nat} {x : Nat} (hf : g_A 34 h a 4 = some x) (hd : decode Y.2.1 pc = .ok (.getfield 21, 3)) (hY : Y.1.cls = RX35) (kk : wp w d Y (pc + 3) ls (.ref x :: st) h Q) : wp w d Y pc ls (.ref a :: st) h Q := x_gA (ci := 34) (k := 4) hf hd rfl (by decide) (by rw [hY]; exact q4506) kk
def fX35_metrics (this : Nat) (p0 : Int32) (h : eH) : Option (Nat × eH) :=
  (g_A 34 h this 4).bind fun a1 =>
  (g_A 34 h this 49).bind fun a3 =>
  (r_I 100 h a3 p0).bind fun x5 =>
  (r_A 107 h a1 x5).bind fun a7 =>
  some (a7, h)
theorem pX35_metrics {w : eW} {d : Nat} (hd : 0 ≤ d) {this : Nat} {p0 : Int32} {h : eH} {q} (hf : fX35_metrics this p0 h = some q) : wm w d YX35_metrics [.ref this, .int p0] h (e_is (e_rn c_A q)) := by
  show wp w d YX35_metrics 0 [some (.ref this), some (.int p0)] [] h _
  unfold fX35_metrics at hf
  refine w_aload_n dX35_metrics_0 rfl rfl ?_
  obtain ⟨a1, b2, hf⟩ := Option.bind_eq_some_iff.mp hf
  refine GX35_21 b2 dX35_metrics_1 rfl ?_
  refine w_aload_n dX35_metrics_4 rfl rfl ?_
  obtain ⟨a3, b4, hf⟩ := Option.bind_eq_some_iff.mp hf
  refine GX35_121 b4 dX35_metrics_5 rfl ?_
  refine w_iload_n dX35_metrics_8 rfl rfl ?_
  obtain ⟨x5, b6, hf⟩ := Option.bind_eq_some_iff.mp hf
  refine x_rI b6 dX35_metrics_9 ?_
  obtain ⟨a7, b8, hf⟩ := Option.bind_eq_some_iff.mp hf
  refine x_rA (c := 107) (by decide) b8 dX35_metrics_10 ?_
  cases hf
  exact w_aret dX35_metrics_11 rfl (Or.inl ⟨_, rfl⟩) (Or.inr ⟨_, rfl⟩) rfl
abbrev cX40_half : ByteArray := prog_41_method_3_code
def yX40_half : MethodName := ⟨RX40, "half", "([BI)I"⟩
def YX40_half : eY := (yX40_half, cX40_half, 2, (Option.some FieldType.int), [])
theorem mX40_half : e_ms YX40_half 2 := ⟨q4917, q483, q4918, by decide, by decide +kernel, (e_sig (by decide +kernel))⟩
theorem dX40_half_0 : decode cX40_half 0 = .ok (.sipush 256, 3) := dc_17 (a := 1) (b := 0) (v := 256) (by decide +kernel)
theorem dX40_half_3 : decode cX40_half 3 = .ok (.aload_n 0, 1) := dc_42 (by decide +kernel)
theorem dX40_half_4 : decode cX40_half 4 = .ok (.iconst 2, 1) := dc_5 (by decide +kernel)
theorem dX40_half_5 : decode cX40_half 5 = .ok (.iload_n 1, 1) := dc_27 (by decide +kernel)
theorem dX40_half_6 : decode cX40_half 6 = .ok (.imul, 1) := dc_104 (by decide +kernel)
theorem dX40_half_7 : decode cX40_half 7 = .ok (.baload, 1) := dc_51 (by decide +kernel)
theorem dX40_half_8 : decode cX40_half 8 = .ok (.sipush 255, 3) := dc_17 (a := 0) (b := 255) (v := 255) (by decide +kernel)
theorem dX40_half_11 : decode cX40_half 11 = .ok (.iand, 1) := dc_126 (by decide +kernel)
theorem dX40_half_12 : decode cX40_half 12 = .ok (.imul, 1) := dc_104 (by decide +kernel)
theorem dX40_half_13 : decode cX40_half 13 = .ok (.aload_n 0, 1) := dc_42 (by decide +kernel)
theorem dX40_half_14 : decode cX40_half 14 = .ok (.iconst 2, 1) := dc_5 (by decide +kernel)
theorem dX40_half_15 : decode cX40_half 15 = .ok (.iload_n 1, 1) := dc_27 (by decide +kernel)
theorem dX40_half_16 : decode cX40_half 16 = .ok (.imul, 1) := dc_104 (by decide +kernel)
theorem dX40_half_17 : decode cX40_half 17 = .ok (.iconst 1, 1) := dc_4 (by decide +kernel)
theorem dX40_half_18 : decode cX40_half 18 = .ok (.iadd, 1) := dc_96 (by decide +kernel)
theorem dX40_half_19 : decode cX40_half 19 = .ok (.baload, 1) := dc_51 (by decide +kernel)
theorem dX40_half_20 : decode cX40_half 20 = .ok (.sipush 255, 3) := dc_17 (a := 0) (b := 255) (v := 255) (by decide +kernel)
theorem dX40_half_23 : decode cX40_half 23 = .ok (.iand, 1) := dc_126 (by decide +kernel)
theorem dX40_half_24 : decode cX40_half 24 = .ok (.iadd, 1) := dc_96 (by decide +kernel)
theorem dX40_half_25 : decode cX40_half 25 = .ok (.ireturn, 1) := dc_172 (by decide +kernel)
def fX40_half (p0 : Nat) (p1 : Int32) (h : eH) : Option (Int32 × eH) :=
  (r_I 102 h p0 ((2 : Int32) * p1)).bind fun x1 =>
  (r_I 102 h p0 (((2 : Int32) * p1) + (1 : Int32))).bind fun x3 =>
  some ((((256 : Int32) * (x1 &&& (255 : Int32))) + (x3 &&& (255 : Int32))), h)
theorem pX40_half {w : eW} {d : Nat} (hd : 0 ≤ d) {p0 : Nat} {p1 : Int32} {h : eH} {q} (hf : fX40_half p0 p1 h = some q) : wm w d YX40_half [.ref p0, .int p1] h (e_is (e_rn c_I q)) := by
  show wp w d YX40_half 0 [some (.ref p0), some (.int p1)] [] h _
  unfold fX40_half at hf
  refine w_sipush dX40_half_0 (v := 256) (by decide) ?_
  refine w_aload_n dX40_half_3 rfl rfl ?_
  refine w_iconst dX40_half_4 (v := 2) (by decide) ?_
  refine w_iload_n dX40_half_5 rfl rfl ?_
  refine w_imul dX40_half_6 ?_
  obtain ⟨x1, b2, hf⟩ := Option.bind_eq_some_iff.mp hf
  refine x_rB b2 dX40_half_7 ?_
  refine w_sipush dX40_half_8 (v := 255) (by decide) ?_
  refine w_iand dX40_half_11 ?_
  refine w_imul dX40_half_12 ?_
  refine w_aload_n dX40_half_13 rfl rfl ?_
  refine w_iconst dX40_half_14 (v := 2) (by decide) ?_
  refine w_iload_n dX40_half_15 rfl rfl ?_
  refine w_imul dX40_half_16 ?_
  refine w_iconst dX40_half_17 (v := 1) (by decide) ?_
  refine w_iadd dX40_half_18 ?_
  obtain ⟨x3, b4, hf⟩ := Option.bind_eq_some_iff.mp hf
  refine x_rB b4 dX40_half_19 ?_
  refine w_sipush dX40_half_20 (v := 255) (by decide) ?_
  refine w_iand dX40_half_23 ?_
  refine w_iadd dX40_half_24 ?_
  cases hf
  exact w_iret dX40_half_25 rfl rfl rfl
abbrev cX40_words : ByteArray := prog_41_method_4_code
def yX40_words : MethodName := ⟨RX40, "words", "([BI)I"⟩
def YX40_words : eY := (yX40_words, cX40_words, 2, (Option.some FieldType.int), [])
theorem mX40_words : e_ms YX40_words 2 := ⟨q4920, q483, q4921, by decide, by decide +kernel, (e_sig (by decide +kernel))⟩
theorem dX40_words_0 : decode cX40_words 0 = .ok (.iload_n 1, 1) := dc_27 (by decide +kernel)
theorem dX40_words_1 : decode cX40_words 1 = .ok (.ifCond .ne 11, 3) := dc_154 (a := 0) (b := 11) (v := 11) (by decide +kernel)
theorem dX40_words_4 : decode cX40_words 4 = .ok (.aload_n 0, 1) := dc_42 (by decide +kernel)
theorem dX40_words_5 : decode cX40_words 5 = .ok (.iconst 1, 1) := dc_4 (by decide +kernel)
theorem dX40_words_6 : decode cX40_words 6 = .ok (.invokestatic 22, 3) := dc_184 (a := 0) (b := 22) (n := 22) (by decide +kernel)
theorem dX40_words_9 : decode cX40_words 9 = .ok (.goto 31, 3) := dc_167 (a := 0) (b := 31) (v := 31) (by decide +kernel)
theorem dX40_words_12 : decode cX40_words 12 = .ok (.iload_n 1, 1) := dc_27 (by decide +kernel)
theorem dX40_words_13 : decode cX40_words 13 = .ok (.iconst 1, 1) := dc_4 (by decide +kernel)
theorem dX40_words_14 : decode cX40_words 14 = .ok (.if_icmp .ne 19, 3) := dc_160 (a := 0) (b := 19) (v := 19) (by decide +kernel)
theorem dX40_words_17 : decode cX40_words 17 = .ok (.aload_n 0, 1) := dc_42 (by decide +kernel)
theorem dX40_words_18 : decode cX40_words 18 = .ok (.iconst 3, 1) := dc_6 (by decide +kernel)
theorem dX40_words_19 : decode cX40_words 19 = .ok (.invokestatic 22, 3) := dc_184 (a := 0) (b := 22) (n := 22) (by decide +kernel)
theorem dX40_words_22 : decode cX40_words 22 = .ok (.aload_n 0, 1) := dc_42 (by decide +kernel)
theorem dX40_words_23 : decode cX40_words 23 = .ok (.iconst 2, 1) := dc_5 (by decide +kernel)
theorem dX40_words_24 : decode cX40_words 24 = .ok (.invokestatic 22, 3) := dc_184 (a := 0) (b := 22) (n := 22) (by decide +kernel)
theorem dX40_words_27 : decode cX40_words 27 = .ok (.isub, 1) := dc_100 (by decide +kernel)
theorem dX40_words_28 : decode cX40_words 28 = .ok (.iconst 1, 1) := dc_4 (by decide +kernel)
theorem dX40_words_29 : decode cX40_words 29 = .ok (.iadd, 1) := dc_96 (by decide +kernel)
theorem dX40_words_30 : decode cX40_words 30 = .ok (.goto 10, 3) := dc_167 (a := 0) (b := 10) (v := 10) (by decide +kernel)
theorem dX40_words_33 : decode cX40_words 33 = .ok (.aload_n 0, 1) := dc_42 (by decide +kernel)
theorem dX40_words_34 : decode cX40_words 34 = .ok (.iload_n 1, 1) := dc_27 (by decide +kernel)
theorem dX40_words_35 : decode cX40_words 35 = .ok (.iconst 2, 1) := dc_5 (by decide +kernel)
theorem dX40_words_36 : decode cX40_words 36 = .ok (.iadd, 1) := dc_96 (by decide +kernel)
theorem dX40_words_37 : decode cX40_words 37 = .ok (.invokestatic 22, 3) := dc_184 (a := 0) (b := 22) (n := 22) (by decide +kernel)
theorem dX40_words_40 : decode cX40_words 40 = .ok (.ireturn, 1) := dc_172 (by decide +kernel)
def fX40_words_b40 (s0 : Int32) (h : eH) : Option (Int32 × eH) :=
  some (s0, h)
theorem pX40_words_b40 {w : eW} {d : Nat} (hd : 1 ≤ d + 1) {s0 : Int32} {h : eH} {q} (hf : fX40_words_b40 s0 h = some q) : wp w (d + 1) YX40_words 40 [none, none] [.int s0] h (e_is (e_rn c_I q)) := by
  unfold fX40_words_b40 at hf
  cases hf
  exact w_iret dX40_words_40 rfl rfl rfl
def fX40_words (p0 : Nat) (p1 : Int32) (h : eH) : Option (Int32 × eH) :=
  if ¬ p1 = 0 then
    if ¬ p1 = (1 : Int32) then
      (fX40_half p0 (p1 + (2 : Int32)) h).bind fun q3 =>
      fX40_words_b40 q3.1 q3.2
    else
      (fX40_half p0 (3 : Int32) h).bind fun q4 =>
      (fX40_half p0 (2 : Int32) q4.2).bind fun q5 =>
      fX40_words_b40 ((q4.1 - q5.1) + (1 : Int32)) q5.2
  else
    (fX40_half p0 (1 : Int32) h).bind fun q6 =>
    fX40_words_b40 q6.1 q6.2
theorem pX40_words {w : eW} {d : Nat} (hd : 1 ≤ d) {p0 : Nat} {p1 : Int32} {h : eH} {q} (hf : fX40_words p0 p1 h = some q) : wm w d YX40_words [.ref p0, .int p1] h (e_is (e_rn c_I q)) := by
  obtain ⟨d, rfl⟩ : ∃ e, d = e + 1 := ⟨d - 1, by omega⟩
  show wp w (d + 1) YX40_words 0 [some (.ref p0), some (.int p1)] [] h _
  unfold fX40_words at hf
  refine w_iload_n dX40_words_0 rfl rfl ?_
  refine w_if_ne 12 dX40_words_1 (by decide) (fun c1 => ?_) (fun c1 => ?_)
  · replace hf := (if_pos (show ¬ p1 = 0 from c1)).symm.trans hf
    refine w_iload_n dX40_words_12 rfl rfl ?_
    refine w_iconst dX40_words_13 (v := 1) (by decide) ?_
    refine w_icmp_ne 33 dX40_words_14 (by decide) (fun c2 => ?_) (fun c2 => ?_)
    · replace hf := (if_pos (show ¬ p1 = (1 : Int32) from c2)).symm.trans hf
      refine w_aload_n dX40_words_33 rfl rfl ?_
      refine w_iload_n dX40_words_34 rfl rfl ?_
      refine w_iconst dX40_words_35 (v := 2) (by decide) ?_
      refine w_iadd dX40_words_36 ?_
      refine x_cnI hf (e_stS (Yc := YX40_half) (av := [.ref p0, .int (p1 + (2 : Int32))]) (st := []) dX40_words_37 q4916 mX40_half) mX40_half.2.2.1 mX40_half.2.2.2.2.1 (Nat.le_of_ble_eq_true rfl) (Nat.le_of_ble_eq_true rfl) (fun q hq => pX40_half (by omega) hq) (fun q3 hf => ?_)
      exact (pX40_words_b40 hd hf).to trivial
    · replace hf := (if_neg (show ¬ (¬ p1 = (1 : Int32)) from (fun z => z c2))).symm.trans hf
      refine w_aload_n dX40_words_17 rfl rfl ?_
      refine w_iconst dX40_words_18 (v := 3) (by decide) ?_
      refine x_cnI hf (e_stS (Yc := YX40_half) (av := [.ref p0, .int (3 : Int32)]) (st := []) dX40_words_19 q4916 mX40_half) mX40_half.2.2.1 mX40_half.2.2.2.2.1 (Nat.le_of_ble_eq_true rfl) (Nat.le_of_ble_eq_true rfl) (fun q hq => pX40_half (by omega) hq) (fun q4 hf => ?_)
      refine w_aload_n dX40_words_22 rfl rfl ?_
      refine w_iconst dX40_words_23 (v := 2) (by decide) ?_
      refine x_cnI hf (e_stS (Yc := YX40_half) (av := [.ref p0, .int (2 : Int32)]) (st := [.int q4.1]) dX40_words_24 q4916 mX40_half) mX40_half.2.2.1 mX40_half.2.2.2.2.1 (Nat.le_of_ble_eq_true rfl) (Nat.le_of_ble_eq_true rfl) (fun q hq => pX40_half (by omega) hq) (fun q5 hf => ?_)
      refine w_isub dX40_words_27 ?_
      refine w_iconst dX40_words_28 (v := 1) (by decide) ?_
      refine w_iadd dX40_words_29 ?_
      refine w_goto 40 dX40_words_30 (by decide) ?_
      exact (pX40_words_b40 hd hf).to trivial
  · replace hf := (if_neg (show ¬ (¬ p1 = 0) from (fun z => z c1))).symm.trans hf
    refine w_aload_n dX40_words_4 rfl rfl ?_
    refine w_iconst dX40_words_5 (v := 1) (by decide) ?_
    refine x_cnI hf (e_stS (Yc := YX40_half) (av := [.ref p0, .int (1 : Int32)]) (st := []) dX40_words_6 q4916 mX40_half) mX40_half.2.2.1 mX40_half.2.2.2.2.1 (Nat.le_of_ble_eq_true rfl) (Nat.le_of_ble_eq_true rfl) (fun q hq => pX40_half (by omega) hq) (fun q6 hf => ?_)
    refine w_goto 40 dX40_words_9 (by decide) ?_
    exact (pX40_words_b40 hd hf).to trivial
abbrev cX40_start : ByteArray := prog_41_method_5_code
def yX40_start : MethodName := ⟨RX40, "start", "([BI)I"⟩
def YX40_start : eY := (yX40_start, cX40_start, 4, (Option.some FieldType.int), [])
theorem mX40_start : e_ms YX40_start 2 := ⟨q4923, q483, q4924, by decide, by decide +kernel, (e_sig (by decide +kernel))⟩
theorem dX40_start_0 : decode cX40_start 0 = .ok (.bipush 6, 2) := dc_16 (a := 6) (v := 6) (by decide +kernel)
theorem dX40_start_2 : decode cX40_start 2 = .ok (.istore_n 2, 1) := dc_61 (by decide +kernel)
theorem dX40_start_3 : decode cX40_start 3 = .ok (.iconst 0, 1) := dc_3 (by decide +kernel)
theorem dX40_start_4 : decode cX40_start 4 = .ok (.istore_n 3, 1) := dc_62 (by decide +kernel)
theorem dX40_start_5 : decode cX40_start 5 = .ok (.iload_n 3, 1) := dc_29 (by decide +kernel)
theorem dX40_start_6 : decode cX40_start 6 = .ok (.iload_n 1, 1) := dc_27 (by decide +kernel)
theorem dX40_start_7 : decode cX40_start 7 = .ok (.if_icmp .ge 17, 3) := dc_162 (a := 0) (b := 17) (v := 17) (by decide +kernel)
theorem dX40_start_10 : decode cX40_start 10 = .ok (.iload_n 2, 1) := dc_28 (by decide +kernel)
theorem dX40_start_11 : decode cX40_start 11 = .ok (.aload_n 0, 1) := dc_42 (by decide +kernel)
theorem dX40_start_12 : decode cX40_start 12 = .ok (.iload_n 3, 1) := dc_29 (by decide +kernel)
theorem dX40_start_13 : decode cX40_start 13 = .ok (.invokestatic 26, 3) := dc_184 (a := 0) (b := 26) (n := 26) (by decide +kernel)
theorem dX40_start_16 : decode cX40_start 16 = .ok (.iadd, 1) := dc_96 (by decide +kernel)
theorem dX40_start_17 : decode cX40_start 17 = .ok (.istore_n 2, 1) := dc_61 (by decide +kernel)
theorem dX40_start_18 : decode cX40_start 18 = .ok (.iinc 3 1, 3) := dc_132 (a := 3) (b := 1) (v := 1) (by decide +kernel)
theorem dX40_start_21 : decode cX40_start 21 = .ok (.goto (-16), 3) := dc_167 (a := 255) (b := 240) (v := -16) (by decide +kernel)
theorem dX40_start_24 : decode cX40_start 24 = .ok (.iload_n 2, 1) := dc_28 (by decide +kernel)
theorem dX40_start_25 : decode cX40_start 25 = .ok (.ireturn, 1) := dc_172 (by decide +kernel)
def fX40_start_b5 (N : Nat) : Nat → Nat → Int32 → Int32 → Int32 → eH → Option (Int32 × eH)
  | 0, _, _, _, _, _ => none
  | n + 1, l0, l1, l2, l3, h =>
    if l1 ≤ l3 then
      some (l2, h)
    else
      (fX40_words l0 l3 h).bind fun q2 =>
      fX40_start_b5 N n l0 l1 (l2 + q2.1) (l3 + (1 : Int32)) q2.2
theorem pX40_start_b5 {w : eW} {d : Nat} (hd : 2 ≤ d + 1) {N : Nat} : ∀ (n : Nat) l0 l1 l2 l3 h q, fX40_start_b5 N n l0 l1 l2 l3 h = some q → wp w (d + 1) YX40_start 5 [some (.ref l0), some (.int l1), some (.int l2), some (.int l3)] [] h (e_is (e_rn c_I q)) := by
  intro n
  induction n with
  | zero => intro l0 l1 l2 l3 h q hf; simp [fX40_start_b5] at hf
  | succ n ih =>
    intro l0 l1 l2 l3 h q hf
    rw [fX40_start_b5] at hf
    refine w_iload_n dX40_start_5 rfl rfl ?_
    refine w_iload_n dX40_start_6 rfl rfl ?_
    refine w_icmp_ge 24 dX40_start_7 (by decide) (fun c1 => ?_) (fun c1 => ?_)
    · replace hf := (if_pos (show l1 ≤ l3 from c1)).symm.trans hf
      refine w_iload_n dX40_start_24 rfl rfl ?_
      cases hf
      exact w_iret dX40_start_25 rfl rfl rfl
    · replace hf := (if_neg (show ¬ (l1 ≤ l3) from c1)).symm.trans hf
      refine w_iload_n dX40_start_10 rfl rfl ?_
      refine w_aload_n dX40_start_11 rfl rfl ?_
      refine w_iload_n dX40_start_12 rfl rfl ?_
      refine x_cnI hf (e_stS (Yc := YX40_words) (av := [.ref l0, .int l3]) (st := [.int l2]) dX40_start_13 q4919 mX40_words) mX40_words.2.2.1 mX40_words.2.2.2.2.1 (Nat.le_of_ble_eq_true rfl) (Nat.le_of_ble_eq_true rfl) (fun q hq => pX40_words (by omega) hq) (fun q2 hf => ?_)
      refine w_iadd dX40_start_16 ?_
      refine w_istore_n dX40_start_17 rfl (by decide) (ls' := [some (.ref l0), some (.int l1), some (.int (l2 + q2.1)), some (.int l3)]) rfl ?_
      refine w_iinc dX40_start_18 (v := (l3 + (1 : Int32))) rfl rfl (by decide) (ls' := [some (.ref l0), some (.int l1), some (.int (l2 + q2.1)), some (.int (l3 + (1 : Int32)))]) rfl ?_
      refine w_goto 5 dX40_start_21 (by decide) ?_
      exact (ih _ _ _ _ _ _ hf).to ⟨rfl, rfl, rfl, rfl, trivial⟩
def fX40_start (N : Nat) (p0 : Nat) (p1 : Int32) (h : eH) : Option (Int32 × eH) :=
  fX40_start_b5 N N p0 p1 (6 : Int32) (0 : Int32) h
theorem pX40_start {w : eW} {d : Nat} (hd : 2 ≤ d) {N : Nat} {p0 : Nat} {p1 : Int32} {h : eH} {q} (hf : fX40_start N p0 p1 h = some q) : wm w d YX40_start [.ref p0, .int p1] h (e_is (e_rn c_I q)) := by
  obtain ⟨d, rfl⟩ : ∃ e, d = e + 1 := ⟨d - 1, by omega⟩
  show wp w (d + 1) YX40_start 0 [some (.ref p0), some (.int p1), none, none] [] h _
  unfold fX40_start at hf
  refine w_bipush dX40_start_0 (v := 6) (by decide) ?_
  refine w_istore_n dX40_start_2 rfl (by decide) (ls' := [some (.ref p0), some (.int p1), some (.int (6 : Int32)), none]) rfl ?_
  refine w_iconst dX40_start_3 (v := 0) (by decide) ?_
  refine w_istore_n dX40_start_4 rfl (by decide) (ls' := [some (.ref p0), some (.int p1), some (.int (6 : Int32)), some (.int (0 : Int32))]) rfl ?_
  exact (pX40_start_b5 hd N _ _ _ _ _ _ hf).to ⟨rfl, rfl, rfl, rfl, trivial⟩
abbrev cX40_at : ByteArray := prog_41_method_6_code
def yX40_at : MethodName := ⟨RX40, "at", "([BIII)I"⟩
def YX40_at : eY := (yX40_at, cX40_at, 4, (Option.some FieldType.int), [])
theorem mX40_at : e_ms YX40_at 4 := ⟨q4929, q483, q4930, by decide, by decide +kernel, (e_sig (by decide +kernel))⟩
theorem dX40_at_0 : decode cX40_at 0 = .ok (.aload_n 0, 1) := dc_42 (by decide +kernel)
theorem dX40_at_1 : decode cX40_at 1 = .ok (.iconst 4, 1) := dc_7 (by decide +kernel)
theorem dX40_at_2 : decode cX40_at 2 = .ok (.aload_n 0, 1) := dc_42 (by decide +kernel)
theorem dX40_at_3 : decode cX40_at 3 = .ok (.iload_n 1, 1) := dc_27 (by decide +kernel)
theorem dX40_at_4 : decode cX40_at 4 = .ok (.invokestatic 29, 3) := dc_184 (a := 0) (b := 29) (n := 29) (by decide +kernel)
theorem dX40_at_7 : decode cX40_at 7 = .ok (.iload_n 2, 1) := dc_28 (by decide +kernel)
theorem dX40_at_8 : decode cX40_at 8 = .ok (.iadd, 1) := dc_96 (by decide +kernel)
theorem dX40_at_9 : decode cX40_at 9 = .ok (.imul, 1) := dc_104 (by decide +kernel)
theorem dX40_at_10 : decode cX40_at 10 = .ok (.iload_n 3, 1) := dc_29 (by decide +kernel)
theorem dX40_at_11 : decode cX40_at 11 = .ok (.iadd, 1) := dc_96 (by decide +kernel)
theorem dX40_at_12 : decode cX40_at 12 = .ok (.baload, 1) := dc_51 (by decide +kernel)
theorem dX40_at_13 : decode cX40_at 13 = .ok (.sipush 255, 3) := dc_17 (a := 0) (b := 255) (v := 255) (by decide +kernel)
theorem dX40_at_16 : decode cX40_at 16 = .ok (.iand, 1) := dc_126 (by decide +kernel)
theorem dX40_at_17 : decode cX40_at 17 = .ok (.ireturn, 1) := dc_172 (by decide +kernel)
def fX40_at (N : Nat) (p0 : Nat) (p1 : Int32) (p2 : Int32) (p3 : Int32) (h : eH) : Option (Int32 × eH) :=
  (fX40_start N p0 p1 h).bind fun q1 =>
  (r_I 102 q1.2 p0 (((4 : Int32) * (q1.1 + p2)) + p3)).bind fun x2 =>
  some ((x2 &&& (255 : Int32)), q1.2)
theorem pX40_at {w : eW} {d : Nat} (hd : 3 ≤ d) {N : Nat} {p0 : Nat} {p1 : Int32} {p2 : Int32} {p3 : Int32} {h : eH} {q} (hf : fX40_at N p0 p1 p2 p3 h = some q) : wm w d YX40_at [.ref p0, .int p1, .int p2, .int p3] h (e_is (e_rn c_I q)) := by
  obtain ⟨d, rfl⟩ : ∃ e, d = e + 1 := ⟨d - 1, by omega⟩
  show wp w (d + 1) YX40_at 0 [some (.ref p0), some (.int p1), some (.int p2), some (.int p3)] [] h _
  unfold fX40_at at hf
  refine w_aload_n dX40_at_0 rfl rfl ?_
  refine w_iconst dX40_at_1 (v := 4) (by decide) ?_
  refine w_aload_n dX40_at_2 rfl rfl ?_
  refine w_iload_n dX40_at_3 rfl rfl ?_
  refine x_cnI hf (e_stS (Yc := YX40_start) (av := [.ref p0, .int p1]) (st := [.int (4 : Int32), .ref p0]) dX40_at_4 q4922 mX40_start) mX40_start.2.2.1 mX40_start.2.2.2.2.1 (Nat.le_of_ble_eq_true rfl) (Nat.le_of_ble_eq_true rfl) (fun q hq => pX40_start (by omega) hq) (fun q1 hf => ?_)
  refine w_iload_n dX40_at_7 rfl rfl ?_
  refine w_iadd dX40_at_8 ?_
  refine w_imul dX40_at_9 ?_
  refine w_iload_n dX40_at_10 rfl rfl ?_
  refine w_iadd dX40_at_11 ?_
  obtain ⟨x2, b3, hf⟩ := Option.bind_eq_some_iff.mp hf
  refine x_rB b3 dX40_at_12 ?_
  refine w_sipush dX40_at_13 (v := 255) (by decide) ?_
  refine w_iand dX40_at_16 ?_
  cases hf
  exact w_iret dX40_at_17 rfl rfl rfl
abbrev cX40_isThere : ByteArray := prog_41_method_8_code
def yX40_isThere : MethodName := ⟨RX40, "isThere", "([BI)Z"⟩
def YX40_isThere : eY := (yX40_isThere, cX40_isThere, 2, (Option.some FieldType.boolean), [])
theorem mX40_isThere : e_ms YX40_isThere 2 := ⟨q4939, q483, q4940, by decide, by decide +kernel, (e_sig (by decide +kernel))⟩
theorem dX40_isThere_0 : decode cX40_isThere 0 = .ok (.iload_n 1, 1) := dc_27 (by decide +kernel)
theorem dX40_isThere_1 : decode cX40_isThere 1 = .ok (.aload_n 0, 1) := dc_42 (by decide +kernel)
theorem dX40_isThere_2 : decode cX40_isThere 2 = .ok (.iconst 2, 1) := dc_5 (by decide +kernel)
theorem dX40_isThere_3 : decode cX40_isThere 3 = .ok (.invokestatic 22, 3) := dc_184 (a := 0) (b := 22) (n := 22) (by decide +kernel)
theorem dX40_isThere_6 : decode cX40_isThere 6 = .ok (.if_icmp .lt 32, 3) := dc_161 (a := 0) (b := 32) (v := 32) (by decide +kernel)
theorem dX40_isThere_9 : decode cX40_isThere 9 = .ok (.iload_n 1, 1) := dc_27 (by decide +kernel)
theorem dX40_isThere_10 : decode cX40_isThere 10 = .ok (.aload_n 0, 1) := dc_42 (by decide +kernel)
theorem dX40_isThere_11 : decode cX40_isThere 11 = .ok (.iconst 3, 1) := dc_6 (by decide +kernel)
theorem dX40_isThere_12 : decode cX40_isThere 12 = .ok (.invokestatic 22, 3) := dc_184 (a := 0) (b := 22) (n := 22) (by decide +kernel)
theorem dX40_isThere_15 : decode cX40_isThere 15 = .ok (.if_icmp .gt 23, 3) := dc_163 (a := 0) (b := 23) (v := 23) (by decide +kernel)
theorem dX40_isThere_18 : decode cX40_isThere 18 = .ok (.aload_n 0, 1) := dc_42 (by decide +kernel)
theorem dX40_isThere_19 : decode cX40_isThere 19 = .ok (.iconst 1, 1) := dc_4 (by decide +kernel)
theorem dX40_isThere_20 : decode cX40_isThere 20 = .ok (.iload_n 1, 1) := dc_27 (by decide +kernel)
theorem dX40_isThere_21 : decode cX40_isThere 21 = .ok (.aload_n 0, 1) := dc_42 (by decide +kernel)
theorem dX40_isThere_22 : decode cX40_isThere 22 = .ok (.iconst 2, 1) := dc_5 (by decide +kernel)
theorem dX40_isThere_23 : decode cX40_isThere 23 = .ok (.invokestatic 22, 3) := dc_184 (a := 0) (b := 22) (n := 22) (by decide +kernel)
theorem dX40_isThere_26 : decode cX40_isThere 26 = .ok (.isub, 1) := dc_100 (by decide +kernel)
theorem dX40_isThere_27 : decode cX40_isThere 27 = .ok (.iconst 0, 1) := dc_3 (by decide +kernel)
theorem dX40_isThere_28 : decode cX40_isThere 28 = .ok (.invokestatic 32, 3) := dc_184 (a := 0) (b := 32) (n := 32) (by decide +kernel)
theorem dX40_isThere_31 : decode cX40_isThere 31 = .ok (.ifCond .le 7, 3) := dc_158 (a := 0) (b := 7) (v := 7) (by decide +kernel)
theorem dX40_isThere_34 : decode cX40_isThere 34 = .ok (.iconst 1, 1) := dc_4 (by decide +kernel)
theorem dX40_isThere_35 : decode cX40_isThere 35 = .ok (.goto 4, 3) := dc_167 (a := 0) (b := 4) (v := 4) (by decide +kernel)
theorem dX40_isThere_38 : decode cX40_isThere 38 = .ok (.iconst 0, 1) := dc_3 (by decide +kernel)
theorem dX40_isThere_39 : decode cX40_isThere 39 = .ok (.ireturn, 1) := dc_172 (by decide +kernel)
def fX40_isThere_b39 (N : Nat) (s0 : Int32) (h : eH) : Option (Int32 × eH) :=
  z_r s0 (s0, h)
theorem pX40_isThere_b39 {w : eW} {d : Nat} (hd : 4 ≤ d + 1) {N : Nat} {s0 : Int32} {h : eH} {q} (hf : fX40_isThere_b39 N s0 h = some q) : wp w (d + 1) YX40_isThere 39 [none, none] [.int s0] h (e_is (e_rn c_I q)) := by
  unfold fX40_isThere_b39 at hf
  obtain ⟨b1, rfl⟩ := z_r_some hf
  exact w_iret dX40_isThere_39 rfl b1 rfl
def fX40_isThere_b38 (N : Nat)  (h : eH) : Option (Int32 × eH) :=
  fX40_isThere_b39 N (0 : Int32) h
theorem pX40_isThere_b38 {w : eW} {d : Nat} (hd : 4 ≤ d + 1) {N : Nat}  {h : eH} {q} (hf : fX40_isThere_b38 N h = some q) : wp w (d + 1) YX40_isThere 38 [none, none] [] h (e_is (e_rn c_I q)) := by
  unfold fX40_isThere_b38 at hf
  refine w_iconst dX40_isThere_38 (v := 0) (by decide) ?_
  exact (pX40_isThere_b39 hd hf).to trivial
def fX40_isThere (N : Nat) (p0 : Nat) (p1 : Int32) (h : eH) : Option (Int32 × eH) :=
  (fX40_half p0 (2 : Int32) h).bind fun q1 =>
  if p1 < q1.1 then
    fX40_isThere_b38 N q1.2
  else
    (fX40_half p0 (3 : Int32) q1.2).bind fun q3 =>
    if q3.1 < p1 then
      fX40_isThere_b38 N q3.2
    else
      (fX40_half p0 (2 : Int32) q3.2).bind fun q5 =>
      (fX40_at N p0 (1 : Int32) (p1 - q5.1) (0 : Int32) q5.2).bind fun q6 =>
      if q6.1 ≤ 0 then
        fX40_isThere_b38 N q6.2
      else
        fX40_isThere_b39 N (1 : Int32) q6.2
theorem pX40_isThere {w : eW} {d : Nat} (hd : 4 ≤ d) {N : Nat} {p0 : Nat} {p1 : Int32} {h : eH} {q} (hf : fX40_isThere N p0 p1 h = some q) : wm w d YX40_isThere [.ref p0, .int p1] h (e_is (e_rn c_I q)) := by
  obtain ⟨d, rfl⟩ : ∃ e, d = e + 1 := ⟨d - 1, by omega⟩
  show wp w (d + 1) YX40_isThere 0 [some (.ref p0), some (.int p1)] [] h _
  unfold fX40_isThere at hf
  refine w_iload_n dX40_isThere_0 rfl rfl ?_
  refine w_aload_n dX40_isThere_1 rfl rfl ?_
  refine w_iconst dX40_isThere_2 (v := 2) (by decide) ?_
  refine x_cnI hf (e_stS (Yc := YX40_half) (av := [.ref p0, .int (2 : Int32)]) (st := [.int p1]) dX40_isThere_3 q4916 mX40_half) mX40_half.2.2.1 mX40_half.2.2.2.2.1 (Nat.le_of_ble_eq_true rfl) (Nat.le_of_ble_eq_true rfl) (fun q hq => pX40_half (by omega) hq) (fun q1 hf => ?_)
  refine w_icmp_lt 38 dX40_isThere_6 (by decide) (fun c2 => ?_) (fun c2 => ?_)
  · replace hf := (if_pos (show p1 < q1.1 from c2)).symm.trans hf
    exact (pX40_isThere_b38 hd hf).to trivial
  · replace hf := (if_neg (show ¬ (p1 < q1.1) from c2)).symm.trans hf
    refine w_iload_n dX40_isThere_9 rfl rfl ?_
    refine w_aload_n dX40_isThere_10 rfl rfl ?_
    refine w_iconst dX40_isThere_11 (v := 3) (by decide) ?_
    refine x_cnI hf (e_stS (Yc := YX40_half) (av := [.ref p0, .int (3 : Int32)]) (st := [.int p1]) dX40_isThere_12 q4916 mX40_half) mX40_half.2.2.1 mX40_half.2.2.2.2.1 (Nat.le_of_ble_eq_true rfl) (Nat.le_of_ble_eq_true rfl) (fun q hq => pX40_half (by omega) hq) (fun q3 hf => ?_)
    refine w_icmp_gt 38 dX40_isThere_15 (by decide) (fun c4 => ?_) (fun c4 => ?_)
    · replace hf := (if_pos (show q3.1 < p1 from c4)).symm.trans hf
      exact (pX40_isThere_b38 hd hf).to trivial
    · replace hf := (if_neg (show ¬ (q3.1 < p1) from c4)).symm.trans hf
      refine w_aload_n dX40_isThere_18 rfl rfl ?_
      refine w_iconst dX40_isThere_19 (v := 1) (by decide) ?_
      refine w_iload_n dX40_isThere_20 rfl rfl ?_
      refine w_aload_n dX40_isThere_21 rfl rfl ?_
      refine w_iconst dX40_isThere_22 (v := 2) (by decide) ?_
      refine x_cnI hf (e_stS (Yc := YX40_half) (av := [.ref p0, .int (2 : Int32)]) (st := [.int p1, .int (1 : Int32), .ref p0]) dX40_isThere_23 q4916 mX40_half) mX40_half.2.2.1 mX40_half.2.2.2.2.1 (Nat.le_of_ble_eq_true rfl) (Nat.le_of_ble_eq_true rfl) (fun q hq => pX40_half (by omega) hq) (fun q5 hf => ?_)
      refine w_isub dX40_isThere_26 ?_
      refine w_iconst dX40_isThere_27 (v := 0) (by decide) ?_
      refine x_cnI hf (e_stS (Yc := YX40_at) (av := [.ref p0, .int (1 : Int32), .int (p1 - q5.1), .int (0 : Int32)]) (st := []) dX40_isThere_28 q4928 mX40_at) mX40_at.2.2.1 mX40_at.2.2.2.2.1 (Nat.le_of_ble_eq_true rfl) (Nat.le_of_ble_eq_true rfl) (fun q hq => pX40_at (by omega) hq) (fun q6 hf => ?_)
      refine w_if_le 38 dX40_isThere_31 (by decide) (fun c7 => ?_) (fun c7 => ?_)
      · replace hf := (if_pos (show q6.1 ≤ 0 from c7)).symm.trans hf
        exact (pX40_isThere_b38 hd hf).to trivial
      · replace hf := (if_neg (show ¬ (q6.1 ≤ 0) from c7)).symm.trans hf
        refine w_iconst dX40_isThere_34 (v := 1) (by decide) ?_
        refine w_goto 39 dX40_isThere_35 (by decide) ?_
        exact (pX40_isThere_b39 hd hf).to trivial
abbrev cX40_isThere_2 : ByteArray := prog_41_method_24_code
def yX40_isThere_2 : MethodName := ⟨RX40, "isThere", "(I)Z"⟩
def YX40_isThere_2 : eY := (yX40_isThere_2, cX40_isThere_2, 2, (Option.some FieldType.boolean), [])
theorem mX40_isThere_2 : e_mv YX40_isThere_2 RX40 1 := ⟨q5672, q5673, q5674, by decide, by decide +kernel, (e_sig (by decide +kernel))⟩
theorem dX40_isThere_2_0 : decode cX40_isThere_2 0 = .ok (.aload_n 0, 1) := dc_42 (by decide +kernel)
theorem dX40_isThere_2_1 : decode cX40_isThere_2 1 = .ok (.getfield 9, 3) := dc_180 (a := 0) (b := 9) (n := 9) (by decide +kernel)
theorem dX40_isThere_2_4 : decode cX40_isThere_2 4 = .ok (.iload_n 1, 1) := dc_27 (by decide +kernel)
theorem dX40_isThere_2_5 : decode cX40_isThere_2 5 = .ok (.invokestatic 42, 3) := dc_184 (a := 0) (b := 42) (n := 42) (by decide +kernel)
theorem dX40_isThere_2_8 : decode cX40_isThere_2 8 = .ok (.ireturn, 1) := dc_172 (by decide +kernel)
theorem GX40_9 {w : eW} {d : Nat} {Y : eY} {pc : Nat} {ls : eL} {st : List Value} {h : eH} {Q : eO → eH → Prop} {a : Nat} {x : Nat} (hf : g_A 42 h a 0 = some x) (hd : decode Y.2.1 pc = .ok (.getfield 9, 3)) (hY : Y.1.cls = RX40) (kk : wp w d Y (pc + 3) ls (.ref x :: st) h Q) : wp w d Y pc ls (.ref a :: st) h Q := x_gA (ci := 42) (k := 0) hf hd rfl (by decide) (by rw [hY]; exact q4976) kk
def fX40_isThere_2 (N : Nat) (this : Nat) (p0 : Int32) (h : eH) : Option (Int32 × eH) :=
  (g_A 42 h this 0).bind fun a1 =>
  (fX40_isThere N a1 p0 h).bind fun q3 =>
  z_r q3.1 (q3.1, q3.2)
theorem pX40_isThere_2 {w : eW} {d : Nat} (hd : 5 ≤ d) {N : Nat} {this : Nat} {p0 : Int32} {h : eH} {q} (hf : fX40_isThere_2 N this p0 h = some q) : wm w d YX40_isThere_2 [.ref this, .int p0] h (e_is (e_rn c_I q)) := by
  obtain ⟨d, rfl⟩ : ∃ e, d = e + 1 := ⟨d - 1, by omega⟩
  show wp w (d + 1) YX40_isThere_2 0 [some (.ref this), some (.int p0)] [] h _
  unfold fX40_isThere_2 at hf
  refine w_aload_n dX40_isThere_2_0 rfl rfl ?_
  obtain ⟨a1, b2, hf⟩ := Option.bind_eq_some_iff.mp hf
  refine GX40_9 b2 dX40_isThere_2_1 rfl ?_
  refine w_iload_n dX40_isThere_2_4 rfl rfl ?_
  refine x_cnI hf (e_stS (Yc := YX40_isThere) (av := [.ref a1, .int p0]) (st := []) dX40_isThere_2_5 q4938 mX40_isThere) mX40_isThere.2.2.1 mX40_isThere.2.2.2.2.1 (Nat.le_of_ble_eq_true rfl) (Nat.le_of_ble_eq_true rfl) (fun q hq => pX40_isThere (by omega) hq) (fun q3 hf => ?_)
  obtain ⟨b4, rfl⟩ := z_r_some hf
  exact w_iret dX40_isThere_2_8 rfl b4 rfl
abbrev cX40_far : ByteArray := prog_41_method_7_code
def yX40_far : MethodName := ⟨RX40, "far", "([BI)I"⟩
def YX40_far : eY := (yX40_far, cX40_far, 2, (Option.some FieldType.int), [])
theorem mX40_far : e_ms YX40_far 2 := ⟨q4963, q483, q4964, by decide, by decide +kernel, (e_sig (by decide +kernel))⟩
theorem dX40_far_0 : decode cX40_far 0 = .ok (.sipush 256, 3) := dc_17 (a := 1) (b := 0) (v := 256) (by decide +kernel)
theorem dX40_far_3 : decode cX40_far 3 = .ok (.aload_n 0, 1) := dc_42 (by decide +kernel)
theorem dX40_far_4 : decode cX40_far 4 = .ok (.bipush 6, 2) := dc_16 (a := 6) (v := 6) (by decide +kernel)
theorem dX40_far_6 : decode cX40_far 6 = .ok (.iload_n 1, 1) := dc_27 (by decide +kernel)
theorem dX40_far_7 : decode cX40_far 7 = .ok (.iconst 2, 1) := dc_5 (by decide +kernel)
theorem dX40_far_8 : decode cX40_far 8 = .ok (.invokestatic 32, 3) := dc_184 (a := 0) (b := 32) (n := 32) (by decide +kernel)
theorem dX40_far_11 : decode cX40_far 11 = .ok (.imul, 1) := dc_104 (by decide +kernel)
theorem dX40_far_12 : decode cX40_far 12 = .ok (.aload_n 0, 1) := dc_42 (by decide +kernel)
theorem dX40_far_13 : decode cX40_far 13 = .ok (.bipush 6, 2) := dc_16 (a := 6) (v := 6) (by decide +kernel)
theorem dX40_far_15 : decode cX40_far 15 = .ok (.iload_n 1, 1) := dc_27 (by decide +kernel)
theorem dX40_far_16 : decode cX40_far 16 = .ok (.iconst 3, 1) := dc_6 (by decide +kernel)
theorem dX40_far_17 : decode cX40_far 17 = .ok (.invokestatic 32, 3) := dc_184 (a := 0) (b := 32) (n := 32) (by decide +kernel)
theorem dX40_far_20 : decode cX40_far 20 = .ok (.iadd, 1) := dc_96 (by decide +kernel)
theorem dX40_far_21 : decode cX40_far 21 = .ok (.ireturn, 1) := dc_172 (by decide +kernel)
def fX40_far (N : Nat) (p0 : Nat) (p1 : Int32) (h : eH) : Option (Int32 × eH) :=
  (fX40_at N p0 (6 : Int32) p1 (2 : Int32) h).bind fun q1 =>
  (fX40_at N p0 (6 : Int32) p1 (3 : Int32) q1.2).bind fun q2 =>
  some ((((256 : Int32) * q1.1) + q2.1), q2.2)
theorem pX40_far {w : eW} {d : Nat} (hd : 4 ≤ d) {N : Nat} {p0 : Nat} {p1 : Int32} {h : eH} {q} (hf : fX40_far N p0 p1 h = some q) : wm w d YX40_far [.ref p0, .int p1] h (e_is (e_rn c_I q)) := by
  obtain ⟨d, rfl⟩ : ∃ e, d = e + 1 := ⟨d - 1, by omega⟩
  show wp w (d + 1) YX40_far 0 [some (.ref p0), some (.int p1)] [] h _
  unfold fX40_far at hf
  refine w_sipush dX40_far_0 (v := 256) (by decide) ?_
  refine w_aload_n dX40_far_3 rfl rfl ?_
  refine w_bipush dX40_far_4 (v := 6) (by decide) ?_
  refine w_iload_n dX40_far_6 rfl rfl ?_
  refine w_iconst dX40_far_7 (v := 2) (by decide) ?_
  refine x_cnI hf (e_stS (Yc := YX40_at) (av := [.ref p0, .int (6 : Int32), .int p1, .int (2 : Int32)]) (st := [.int (256 : Int32)]) dX40_far_8 q4928 mX40_at) mX40_at.2.2.1 mX40_at.2.2.2.2.1 (Nat.le_of_ble_eq_true rfl) (Nat.le_of_ble_eq_true rfl) (fun q hq => pX40_at (by omega) hq) (fun q1 hf => ?_)
  refine w_imul dX40_far_11 ?_
  refine w_aload_n dX40_far_12 rfl rfl ?_
  refine w_bipush dX40_far_13 (v := 6) (by decide) ?_
  refine w_iload_n dX40_far_15 rfl rfl ?_
  refine w_iconst dX40_far_16 (v := 3) (by decide) ?_
  refine x_cnI hf (e_stS (Yc := YX40_at) (av := [.ref p0, .int (6 : Int32), .int p1, .int (3 : Int32)]) (st := [.int ((256 : Int32) * q1.1)]) dX40_far_17 q4928 mX40_at) mX40_at.2.2.1 mX40_at.2.2.2.2.1 (Nat.le_of_ble_eq_true rfl) (Nat.le_of_ble_eq_true rfl) (fun q hq => pX40_at (by omega) hq) (fun q2 hf => ?_)
  refine w_iadd dX40_far_20 ?_
  cases hf
  exact w_iret dX40_far_21 rfl rfl rfl
abbrev cX40_edgeProgram : ByteArray := prog_41_method_12_code
def yX40_edgeProgram : MethodName := ⟨RX40, "edgeProgram", "([B)I"⟩
def YX40_edgeProgram : eY := (yX40_edgeProgram, cX40_edgeProgram, 2, (Option.some FieldType.int), [])
theorem mX40_edgeProgram : e_ms YX40_edgeProgram 1 := ⟨q5684, q483, q5685, by decide, by decide +kernel, (e_sig (by decide +kernel))⟩
theorem dX40_edgeProgram_0 : decode cX40_edgeProgram 0 = .ok (.aload_n 0, 1) := dc_42 (by decide +kernel)
theorem dX40_edgeProgram_1 : decode cX40_edgeProgram 1 = .ok (.bipush 6, 2) := dc_16 (a := 6) (v := 6) (by decide +kernel)
theorem dX40_edgeProgram_3 : decode cX40_edgeProgram 3 = .ok (.invokestatic 26, 3) := dc_184 (a := 0) (b := 26) (n := 26) (by decide +kernel)
theorem dX40_edgeProgram_6 : decode cX40_edgeProgram 6 = .ok (.istore_n 1, 1) := dc_60 (by decide +kernel)
theorem dX40_edgeProgram_7 : decode cX40_edgeProgram 7 = .ok (.iload_n 1, 1) := dc_27 (by decide +kernel)
theorem dX40_edgeProgram_8 : decode cX40_edgeProgram 8 = .ok (.ifCond .le 29, 3) := dc_158 (a := 0) (b := 29) (v := 29) (by decide +kernel)
theorem dX40_edgeProgram_11 : decode cX40_edgeProgram 11 = .ok (.aload_n 0, 1) := dc_42 (by decide +kernel)
theorem dX40_edgeProgram_12 : decode cX40_edgeProgram 12 = .ok (.bipush 6, 2) := dc_16 (a := 6) (v := 6) (by decide +kernel)
theorem dX40_edgeProgram_14 : decode cX40_edgeProgram 14 = .ok (.iload_n 1, 1) := dc_27 (by decide +kernel)
theorem dX40_edgeProgram_15 : decode cX40_edgeProgram 15 = .ok (.iconst 1, 1) := dc_4 (by decide +kernel)
theorem dX40_edgeProgram_16 : decode cX40_edgeProgram 16 = .ok (.isub, 1) := dc_100 (by decide +kernel)
theorem dX40_edgeProgram_17 : decode cX40_edgeProgram 17 = .ok (.iconst 0, 1) := dc_3 (by decide +kernel)
theorem dX40_edgeProgram_18 : decode cX40_edgeProgram 18 = .ok (.invokestatic 32, 3) := dc_184 (a := 0) (b := 32) (n := 32) (by decide +kernel)
theorem dX40_edgeProgram_21 : decode cX40_edgeProgram 21 = .ok (.sipush 255, 3) := dc_17 (a := 0) (b := 255) (v := 255) (by decide +kernel)
theorem dX40_edgeProgram_24 : decode cX40_edgeProgram 24 = .ok (.if_icmp .ne 13, 3) := dc_160 (a := 0) (b := 13) (v := 13) (by decide +kernel)
theorem dX40_edgeProgram_27 : decode cX40_edgeProgram 27 = .ok (.aload_n 0, 1) := dc_42 (by decide +kernel)
theorem dX40_edgeProgram_28 : decode cX40_edgeProgram 28 = .ok (.iload_n 1, 1) := dc_27 (by decide +kernel)
theorem dX40_edgeProgram_29 : decode cX40_edgeProgram 29 = .ok (.iconst 1, 1) := dc_4 (by decide +kernel)
theorem dX40_edgeProgram_30 : decode cX40_edgeProgram 30 = .ok (.isub, 1) := dc_100 (by decide +kernel)
theorem dX40_edgeProgram_31 : decode cX40_edgeProgram 31 = .ok (.invokestatic 36, 3) := dc_184 (a := 0) (b := 36) (n := 36) (by decide +kernel)
theorem dX40_edgeProgram_34 : decode cX40_edgeProgram 34 = .ok (.goto 4, 3) := dc_167 (a := 0) (b := 4) (v := 4) (by decide +kernel)
theorem dX40_edgeProgram_37 : decode cX40_edgeProgram 37 = .ok (.iconst (-1), 1) := dc_2 (by decide +kernel)
theorem dX40_edgeProgram_38 : decode cX40_edgeProgram 38 = .ok (.ireturn, 1) := dc_172 (by decide +kernel)
def fX40_edgeProgram_b38 (N : Nat) (s0 : Int32) (h : eH) : Option (Int32 × eH) :=
  some (s0, h)
theorem pX40_edgeProgram_b38 {w : eW} {d : Nat} (hd : 5 ≤ d + 1) {N : Nat} {s0 : Int32} {h : eH} {q} (hf : fX40_edgeProgram_b38 N s0 h = some q) : wp w (d + 1) YX40_edgeProgram 38 [none, none] [.int s0] h (e_is (e_rn c_I q)) := by
  unfold fX40_edgeProgram_b38 at hf
  cases hf
  exact w_iret dX40_edgeProgram_38 rfl rfl rfl
def fX40_edgeProgram_b37 (N : Nat)  (h : eH) : Option (Int32 × eH) :=
  fX40_edgeProgram_b38 N (-1 : Int32) h
theorem pX40_edgeProgram_b37 {w : eW} {d : Nat} (hd : 5 ≤ d + 1) {N : Nat}  {h : eH} {q} (hf : fX40_edgeProgram_b37 N h = some q) : wp w (d + 1) YX40_edgeProgram 37 [none, none] [] h (e_is (e_rn c_I q)) := by
  unfold fX40_edgeProgram_b37 at hf
  refine w_iconst dX40_edgeProgram_37 (v := -1) (by decide) ?_
  exact (pX40_edgeProgram_b38 hd hf).to trivial
def fX40_edgeProgram (N : Nat) (p0 : Nat) (h : eH) : Option (Int32 × eH) :=
  (fX40_words p0 (6 : Int32) h).bind fun q1 =>
  if q1.1 ≤ 0 then
    fX40_edgeProgram_b37 N q1.2
  else
    (fX40_at N p0 (6 : Int32) (q1.1 - (1 : Int32)) (0 : Int32) q1.2).bind fun q3 =>
    if ¬ q3.1 = (255 : Int32) then
      fX40_edgeProgram_b37 N q3.2
    else
      (fX40_far N p0 (q1.1 - (1 : Int32)) q3.2).bind fun q5 =>
      fX40_edgeProgram_b38 N q5.1 q5.2
theorem pX40_edgeProgram {w : eW} {d : Nat} (hd : 5 ≤ d) {N : Nat} {p0 : Nat} {h : eH} {q} (hf : fX40_edgeProgram N p0 h = some q) : wm w d YX40_edgeProgram [.ref p0] h (e_is (e_rn c_I q)) := by
  obtain ⟨d, rfl⟩ : ∃ e, d = e + 1 := ⟨d - 1, by omega⟩
  show wp w (d + 1) YX40_edgeProgram 0 [some (.ref p0), none] [] h _
  unfold fX40_edgeProgram at hf
  refine w_aload_n dX40_edgeProgram_0 rfl rfl ?_
  refine w_bipush dX40_edgeProgram_1 (v := 6) (by decide) ?_
  refine x_cnI hf (e_stS (Yc := YX40_words) (av := [.ref p0, .int (6 : Int32)]) (st := []) dX40_edgeProgram_3 q4919 mX40_words) mX40_words.2.2.1 mX40_words.2.2.2.2.1 (Nat.le_of_ble_eq_true rfl) (Nat.le_of_ble_eq_true rfl) (fun q hq => pX40_words (by omega) hq) (fun q1 hf => ?_)
  refine w_istore_n dX40_edgeProgram_6 rfl (by decide) (ls' := [some (.ref p0), some (.int q1.1)]) rfl ?_
  refine w_iload_n dX40_edgeProgram_7 rfl rfl ?_
  refine w_if_le 37 dX40_edgeProgram_8 (by decide) (fun c2 => ?_) (fun c2 => ?_)
  · replace hf := (if_pos (show q1.1 ≤ 0 from c2)).symm.trans hf
    exact (pX40_edgeProgram_b37 hd hf).to trivial
  · replace hf := (if_neg (show ¬ (q1.1 ≤ 0) from c2)).symm.trans hf
    refine w_aload_n dX40_edgeProgram_11 rfl rfl ?_
    refine w_bipush dX40_edgeProgram_12 (v := 6) (by decide) ?_
    refine w_iload_n dX40_edgeProgram_14 rfl rfl ?_
    refine w_iconst dX40_edgeProgram_15 (v := 1) (by decide) ?_
    refine w_isub dX40_edgeProgram_16 ?_
    refine w_iconst dX40_edgeProgram_17 (v := 0) (by decide) ?_
    refine x_cnI hf (e_stS (Yc := YX40_at) (av := [.ref p0, .int (6 : Int32), .int (q1.1 - (1 : Int32)), .int (0 : Int32)]) (st := []) dX40_edgeProgram_18 q4928 mX40_at) mX40_at.2.2.1 mX40_at.2.2.2.2.1 (Nat.le_of_ble_eq_true rfl) (Nat.le_of_ble_eq_true rfl) (fun q hq => pX40_at (by omega) hq) (fun q3 hf => ?_)
    refine w_sipush dX40_edgeProgram_21 (v := 255) (by decide) ?_
    refine w_icmp_ne 37 dX40_edgeProgram_24 (by decide) (fun c4 => ?_) (fun c4 => ?_)
    · replace hf := (if_pos (show ¬ q3.1 = (255 : Int32) from c4)).symm.trans hf
      exact (pX40_edgeProgram_b37 hd hf).to trivial
    · replace hf := (if_neg (show ¬ (¬ q3.1 = (255 : Int32)) from (fun z => z c4))).symm.trans hf
      refine w_aload_n dX40_edgeProgram_27 rfl rfl ?_
      refine w_iload_n dX40_edgeProgram_28 rfl rfl ?_
      refine w_iconst dX40_edgeProgram_29 (v := 1) (by decide) ?_
      refine w_isub dX40_edgeProgram_30 ?_
      refine x_cnI hf (e_stS (Yc := YX40_far) (av := [.ref p0, .int (q1.1 - (1 : Int32))]) (st := []) dX40_edgeProgram_31 q4962 mX40_far) mX40_far.2.2.1 mX40_far.2.2.2.2.1 (Nat.le_of_ble_eq_true rfl) (Nat.le_of_ble_eq_true rfl) (fun q hq => pX40_far (by omega) hq) (fun q5 hf => ?_)
      refine w_goto 38 dX40_edgeProgram_34 (by decide) ?_
      exact (pX40_edgeProgram_b38 hd hf).to trivial
abbrev cX40_insert : ByteArray := prog_41_method_31_code
def yX40_insert : MethodName := ⟨RX40, "insert", "(III)V"⟩
def YX40_insert : eY := (yX40_insert, cX40_insert, 5, none, [])
theorem mX40_insert : e_mv YX40_insert RX40 3 := ⟨q5688, qs354, q5689, by decide, by decide +kernel, (e_sig (by decide +kernel))⟩
theorem dX40_insert_0 : decode cX40_insert 0 = .ok (.aload_n 0, 1) := dc_42 (by decide +kernel)
theorem dX40_insert_1 : decode cX40_insert 1 = .ok (.getfield 101, 3) := dc_180 (a := 0) (b := 101) (n := 101) (by decide +kernel)
theorem dX40_insert_4 : decode cX40_insert 4 = .ok (.istore 4, 2) := dc_54 (a := 4) (by decide +kernel)
theorem dX40_insert_6 : decode cX40_insert 6 = .ok (.iload 4, 2) := dc_21 (a := 4) (by decide +kernel)
theorem dX40_insert_8 : decode cX40_insert 8 = .ok (.iload_n 1, 1) := dc_27 (by decide +kernel)
theorem dX40_insert_9 : decode cX40_insert 9 = .ok (.if_icmp .le 41, 3) := dc_164 (a := 0) (b := 41) (v := 41) (by decide +kernel)
theorem dX40_insert_12 : decode cX40_insert 12 = .ok (.aload_n 0, 1) := dc_42 (by decide +kernel)
theorem dX40_insert_13 : decode cX40_insert 13 = .ok (.getfield 15, 3) := dc_180 (a := 0) (b := 15) (n := 15) (by decide +kernel)
theorem dX40_insert_16 : decode cX40_insert 16 = .ok (.iload 4, 2) := dc_21 (a := 4) (by decide +kernel)
theorem dX40_insert_18 : decode cX40_insert 18 = .ok (.aload_n 0, 1) := dc_42 (by decide +kernel)
theorem dX40_insert_19 : decode cX40_insert 19 = .ok (.getfield 15, 3) := dc_180 (a := 0) (b := 15) (n := 15) (by decide +kernel)
theorem dX40_insert_22 : decode cX40_insert 22 = .ok (.iload 4, 2) := dc_21 (a := 4) (by decide +kernel)
theorem dX40_insert_24 : decode cX40_insert 24 = .ok (.iconst 1, 1) := dc_4 (by decide +kernel)
theorem dX40_insert_25 : decode cX40_insert 25 = .ok (.isub, 1) := dc_100 (by decide +kernel)
theorem dX40_insert_26 : decode cX40_insert 26 = .ok (.iaload, 1) := dc_46 (by decide +kernel)
theorem dX40_insert_27 : decode cX40_insert 27 = .ok (.iastore, 1) := dc_79 (by decide +kernel)
theorem dX40_insert_28 : decode cX40_insert 28 = .ok (.aload_n 0, 1) := dc_42 (by decide +kernel)
theorem dX40_insert_29 : decode cX40_insert 29 = .ok (.getfield 19, 3) := dc_180 (a := 0) (b := 19) (n := 19) (by decide +kernel)
theorem dX40_insert_32 : decode cX40_insert 32 = .ok (.iload 4, 2) := dc_21 (a := 4) (by decide +kernel)
theorem dX40_insert_34 : decode cX40_insert 34 = .ok (.aload_n 0, 1) := dc_42 (by decide +kernel)
theorem dX40_insert_35 : decode cX40_insert 35 = .ok (.getfield 19, 3) := dc_180 (a := 0) (b := 19) (n := 19) (by decide +kernel)
theorem dX40_insert_38 : decode cX40_insert 38 = .ok (.iload 4, 2) := dc_21 (a := 4) (by decide +kernel)
theorem dX40_insert_40 : decode cX40_insert 40 = .ok (.iconst 1, 1) := dc_4 (by decide +kernel)
theorem dX40_insert_41 : decode cX40_insert 41 = .ok (.isub, 1) := dc_100 (by decide +kernel)
theorem dX40_insert_42 : decode cX40_insert 42 = .ok (.iaload, 1) := dc_46 (by decide +kernel)
theorem dX40_insert_43 : decode cX40_insert 43 = .ok (.iastore, 1) := dc_79 (by decide +kernel)
theorem dX40_insert_44 : decode cX40_insert 44 = .ok (.iinc 4 (-1), 3) := dc_132 (a := 4) (b := 255) (v := -1) (by decide +kernel)
theorem dX40_insert_47 : decode cX40_insert 47 = .ok (.goto (-41), 3) := dc_167 (a := 255) (b := 215) (v := -41) (by decide +kernel)
theorem dX40_insert_50 : decode cX40_insert 50 = .ok (.aload_n 0, 1) := dc_42 (by decide +kernel)
theorem dX40_insert_51 : decode cX40_insert 51 = .ok (.getfield 15, 3) := dc_180 (a := 0) (b := 15) (n := 15) (by decide +kernel)
theorem dX40_insert_54 : decode cX40_insert 54 = .ok (.iload_n 1, 1) := dc_27 (by decide +kernel)
theorem dX40_insert_55 : decode cX40_insert 55 = .ok (.iload_n 2, 1) := dc_28 (by decide +kernel)
theorem dX40_insert_56 : decode cX40_insert 56 = .ok (.iastore, 1) := dc_79 (by decide +kernel)
theorem dX40_insert_57 : decode cX40_insert 57 = .ok (.aload_n 0, 1) := dc_42 (by decide +kernel)
theorem dX40_insert_58 : decode cX40_insert 58 = .ok (.getfield 19, 3) := dc_180 (a := 0) (b := 19) (n := 19) (by decide +kernel)
theorem dX40_insert_61 : decode cX40_insert 61 = .ok (.iload_n 1, 1) := dc_27 (by decide +kernel)
theorem dX40_insert_62 : decode cX40_insert 62 = .ok (.iload_n 3, 1) := dc_29 (by decide +kernel)
theorem dX40_insert_63 : decode cX40_insert 63 = .ok (.iastore, 1) := dc_79 (by decide +kernel)
theorem dX40_insert_64 : decode cX40_insert 64 = .ok (.aload_n 0, 1) := dc_42 (by decide +kernel)
theorem dX40_insert_65 : decode cX40_insert 65 = .ok (.dup, 1) := dc_89 (by decide +kernel)
theorem dX40_insert_66 : decode cX40_insert 66 = .ok (.getfield 101, 3) := dc_180 (a := 0) (b := 101) (n := 101) (by decide +kernel)
theorem dX40_insert_69 : decode cX40_insert 69 = .ok (.iconst 1, 1) := dc_4 (by decide +kernel)
theorem dX40_insert_70 : decode cX40_insert 70 = .ok (.iadd, 1) := dc_96 (by decide +kernel)
theorem dX40_insert_71 : decode cX40_insert 71 = .ok (.putfield 101, 3) := dc_181 (a := 0) (b := 101) (n := 101) (by decide +kernel)
theorem dX40_insert_74 : decode cX40_insert 74 = .ok (.return_, 1) := dc_177 (by decide +kernel)
theorem GX40_101 {w : eW} {d : Nat} {Y : eY} {pc : Nat} {ls : eL} {st : List Value} {h : eH} {Q : eO → eH → Prop} {a : Nat} {x : Int32} (hf : g_I 42 h a 3 = some x) (hd : decode Y.2.1 pc = .ok (.getfield 101, 3)) (hY : Y.1.cls = RX40) (kk : wp w d Y (pc + 3) ls (.int x :: st) h Q) : wp w d Y pc ls (.ref a :: st) h Q := x_gI (ci := 42) (k := 3) hf hd rfl (by decide) (by rw [hY]; exact q4981) kk
theorem GX40_15 {w : eW} {d : Nat} {Y : eY} {pc : Nat} {ls : eL} {st : List Value} {h : eH} {Q : eO → eH → Prop} {a : Nat} {x : Nat} (hf : g_A 42 h a 1 = some x) (hd : decode Y.2.1 pc = .ok (.getfield 15, 3)) (hY : Y.1.cls = RX40) (kk : wp w d Y (pc + 3) ls (.ref x :: st) h Q) : wp w d Y pc ls (.ref a :: st) h Q := x_gA (ci := 42) (k := 1) hf hd rfl (by decide) (by rw [hY]; exact q4977) kk
theorem GX40_19 {w : eW} {d : Nat} {Y : eY} {pc : Nat} {ls : eL} {st : List Value} {h : eH} {Q : eO → eH → Prop} {a : Nat} {x : Nat} (hf : g_A 42 h a 2 = some x) (hd : decode Y.2.1 pc = .ok (.getfield 19, 3)) (hY : Y.1.cls = RX40) (kk : wp w d Y (pc + 3) ls (.ref x :: st) h Q) : wp w d Y pc ls (.ref a :: st) h Q := x_gA (ci := 42) (k := 2) hf hd rfl (by decide) (by rw [hY]; exact q4979) kk
theorem SX40_101 {w : eW} {d : Nat} {Y : eY} {pc : Nat} {ls : eL} {st : List Value} {h : eH} {Q : eO → eH → Prop} {a : Nat} {h' : eH} {x : Int32} (hf : p_V 42 h a 3 (.int x) = some h') (hd : decode Y.2.1 pc = .ok (.putfield 101, 3)) (hY : Y.1.cls = RX40) (kk : wp w d Y (pc + 3) ls st h' Q) : wp w d Y pc ls (.int x :: .ref a :: st) h Q := x_pI (ci := 42) (k := 3) hf hd rfl (by decide) (by rw [hY]; exact q4981) rfl rfl kk
def fX40_insert_b6 (N : Nat) : Nat → Nat → Int32 → Int32 → Int32 → Int32 → eH → Option (Unit × eH)
  | 0, _, _, _, _, _, _ => none
  | n + 1, l0, l1, l2, l3, l4, h =>
    if l4 ≤ l1 then
      (g_A 42 h l0 1).bind fun a2 =>
      (q_V 100 h a2 l1 (.int l2)).bind fun h4 =>
      (g_A 42 h4 l0 2).bind fun a6 =>
      (q_V 100 h4 a6 l1 (.int l3)).bind fun h8 =>
      (g_I 42 h8 l0 3).bind fun x10 =>
      (p_V 42 h8 l0 3 (.int (x10 + (1 : Int32)))).bind fun h12 =>
      some ((), h12)
    else
      (g_A 42 h l0 1).bind fun a14 =>
      (g_A 42 h l0 1).bind fun a16 =>
      (r_I 100 h a16 (l4 - (1 : Int32))).bind fun x18 =>
      (q_V 100 h a14 l4 (.int x18)).bind fun h20 =>
      (g_A 42 h20 l0 2).bind fun a22 =>
      (g_A 42 h20 l0 2).bind fun a24 =>
      (r_I 100 h20 a24 (l4 - (1 : Int32))).bind fun x26 =>
      (q_V 100 h20 a22 l4 (.int x26)).bind fun h28 =>
      fX40_insert_b6 N n l0 l1 l2 l3 (l4 + (-1 : Int32)) h28
theorem pX40_insert_b6 {w : eW} {d : Nat} (hd : 0 ≤ d) {N : Nat} : ∀ (n : Nat) l0 l1 l2 l3 l4 h q, fX40_insert_b6 N n l0 l1 l2 l3 l4 h = some q → wp w d YX40_insert 6 [some (.ref l0), some (.int l1), some (.int l2), some (.int l3), some (.int l4)] [] h (e_is (e_rn c_V q)) := by
  intro n
  induction n with
  | zero => intro l0 l1 l2 l3 l4 h q hf; simp [fX40_insert_b6] at hf
  | succ n ih =>
    intro l0 l1 l2 l3 l4 h q hf
    rw [fX40_insert_b6] at hf
    refine w_iload dX40_insert_6 rfl ?_
    refine w_iload_n dX40_insert_8 rfl rfl ?_
    refine w_icmp_le 50 dX40_insert_9 (by decide) (fun c1 => ?_) (fun c1 => ?_)
    · replace hf := (if_pos (show l4 ≤ l1 from c1)).symm.trans hf
      refine w_aload_n dX40_insert_50 rfl rfl ?_
      obtain ⟨a2, b3, hf⟩ := Option.bind_eq_some_iff.mp hf
      refine GX40_15 b3 dX40_insert_51 rfl ?_
      refine w_iload_n dX40_insert_54 rfl rfl ?_
      refine w_iload_n dX40_insert_55 rfl rfl ?_
      obtain ⟨h4, b5, hf⟩ := Option.bind_eq_some_iff.mp hf
      refine x_qI b5 dX40_insert_56 ?_
      refine w_aload_n dX40_insert_57 rfl rfl ?_
      obtain ⟨a6, b7, hf⟩ := Option.bind_eq_some_iff.mp hf
      refine GX40_19 b7 dX40_insert_58 rfl ?_
      refine w_iload_n dX40_insert_61 rfl rfl ?_
      refine w_iload_n dX40_insert_62 rfl rfl ?_
      obtain ⟨h8, b9, hf⟩ := Option.bind_eq_some_iff.mp hf
      refine x_qI b9 dX40_insert_63 ?_
      refine w_aload_n dX40_insert_64 rfl rfl ?_
      refine w_dup dX40_insert_65 rfl ?_
      obtain ⟨x10, b11, hf⟩ := Option.bind_eq_some_iff.mp hf
      refine GX40_101 b11 dX40_insert_66 rfl ?_
      refine w_iconst dX40_insert_69 (v := 1) (by decide) ?_
      refine w_iadd dX40_insert_70 ?_
      obtain ⟨h12, b13, hf⟩ := Option.bind_eq_some_iff.mp hf
      refine SX40_101 b13 dX40_insert_71 rfl ?_
      cases hf
      exact w_vret dX40_insert_74 rfl rfl
    · replace hf := (if_neg (show ¬ (l4 ≤ l1) from c1)).symm.trans hf
      refine w_aload_n dX40_insert_12 rfl rfl ?_
      obtain ⟨a14, b15, hf⟩ := Option.bind_eq_some_iff.mp hf
      refine GX40_15 b15 dX40_insert_13 rfl ?_
      refine w_iload dX40_insert_16 rfl ?_
      refine w_aload_n dX40_insert_18 rfl rfl ?_
      obtain ⟨a16, b17, hf⟩ := Option.bind_eq_some_iff.mp hf
      refine GX40_15 b17 dX40_insert_19 rfl ?_
      refine w_iload dX40_insert_22 rfl ?_
      refine w_iconst dX40_insert_24 (v := 1) (by decide) ?_
      refine w_isub dX40_insert_25 ?_
      obtain ⟨x18, b19, hf⟩ := Option.bind_eq_some_iff.mp hf
      refine x_rI b19 dX40_insert_26 ?_
      obtain ⟨h20, b21, hf⟩ := Option.bind_eq_some_iff.mp hf
      refine x_qI b21 dX40_insert_27 ?_
      refine w_aload_n dX40_insert_28 rfl rfl ?_
      obtain ⟨a22, b23, hf⟩ := Option.bind_eq_some_iff.mp hf
      refine GX40_19 b23 dX40_insert_29 rfl ?_
      refine w_iload dX40_insert_32 rfl ?_
      refine w_aload_n dX40_insert_34 rfl rfl ?_
      obtain ⟨a24, b25, hf⟩ := Option.bind_eq_some_iff.mp hf
      refine GX40_19 b25 dX40_insert_35 rfl ?_
      refine w_iload dX40_insert_38 rfl ?_
      refine w_iconst dX40_insert_40 (v := 1) (by decide) ?_
      refine w_isub dX40_insert_41 ?_
      obtain ⟨x26, b27, hf⟩ := Option.bind_eq_some_iff.mp hf
      refine x_rI b27 dX40_insert_42 ?_
      obtain ⟨h28, b29, hf⟩ := Option.bind_eq_some_iff.mp hf
      refine x_qI b29 dX40_insert_43 ?_
      refine w_iinc dX40_insert_44 (v := (l4 + (-1 : Int32))) rfl rfl (by decide) (ls' := [some (.ref l0), some (.int l1), some (.int l2), some (.int l3), some (.int (l4 + (-1 : Int32)))]) rfl ?_
      refine w_goto 6 dX40_insert_47 (by decide) ?_
      exact (ih _ _ _ _ _ _ _ hf).to ⟨rfl, rfl, rfl, rfl, rfl, trivial⟩
def fX40_insert (N : Nat) (this : Nat) (p0 : Int32) (p1 : Int32) (p2 : Int32) (h : eH) : Option (Unit × eH) :=
  (g_I 42 h this 3).bind fun x1 =>
  fX40_insert_b6 N N this p0 p1 p2 x1 h
theorem pX40_insert {w : eW} {d : Nat} (hd : 0 ≤ d) {N : Nat} {this : Nat} {p0 : Int32} {p1 : Int32} {p2 : Int32} {h : eH} {q} (hf : fX40_insert N this p0 p1 p2 h = some q) : wm w d YX40_insert [.ref this, .int p0, .int p1, .int p2] h (e_is (e_rn c_V q)) := by
  show wp w d YX40_insert 0 [some (.ref this), some (.int p0), some (.int p1), some (.int p2), none] [] h _
  unfold fX40_insert at hf
  refine w_aload_n dX40_insert_0 rfl rfl ?_
  obtain ⟨x1, b2, hf⟩ := Option.bind_eq_some_iff.mp hf
  refine GX40_101 b2 dX40_insert_1 rfl ?_
  refine w_istore dX40_insert_4 (by decide) (ls' := [some (.ref this), some (.int p0), some (.int p1), some (.int p2), some (.int x1)]) rfl ?_
  exact (pX40_insert_b6 hd N _ _ _ _ _ _ _ hf).to ⟨rfl, rfl, rfl, rfl, rfl, trivial⟩
abbrev cX40_edgeOf : ByteArray := prog_41_method_11_code
def yX40_edgeOf : MethodName := ⟨RX40, "edgeOf", "([B)I"⟩
def YX40_edgeOf : eY := (yX40_edgeOf, cX40_edgeOf, 1, (Option.some FieldType.int), [])
theorem mX40_edgeOf : e_ms YX40_edgeOf 1 := ⟨q4966, q483, q4967, by decide, by decide +kernel, (e_sig (by decide +kernel))⟩
theorem dX40_edgeOf_0 : decode cX40_edgeOf 0 = .ok (.aload_n 0, 1) := dc_42 (by decide +kernel)
theorem dX40_edgeOf_1 : decode cX40_edgeOf 1 = .ok (.bipush 6, 2) := dc_16 (a := 6) (v := 6) (by decide +kernel)
theorem dX40_edgeOf_3 : decode cX40_edgeOf 3 = .ok (.invokestatic 26, 3) := dc_184 (a := 0) (b := 26) (n := 26) (by decide +kernel)
theorem dX40_edgeOf_6 : decode cX40_edgeOf 6 = .ok (.ifCond .le 28, 3) := dc_158 (a := 0) (b := 28) (v := 28) (by decide +kernel)
theorem dX40_edgeOf_9 : decode cX40_edgeOf 9 = .ok (.aload_n 0, 1) := dc_42 (by decide +kernel)
theorem dX40_edgeOf_10 : decode cX40_edgeOf 10 = .ok (.bipush 6, 2) := dc_16 (a := 6) (v := 6) (by decide +kernel)
theorem dX40_edgeOf_12 : decode cX40_edgeOf 12 = .ok (.iconst 0, 1) := dc_3 (by decide +kernel)
theorem dX40_edgeOf_13 : decode cX40_edgeOf 13 = .ok (.iconst 0, 1) := dc_3 (by decide +kernel)
theorem dX40_edgeOf_14 : decode cX40_edgeOf 14 = .ok (.invokestatic 32, 3) := dc_184 (a := 0) (b := 32) (n := 32) (by decide +kernel)
theorem dX40_edgeOf_17 : decode cX40_edgeOf 17 = .ok (.sipush 255, 3) := dc_17 (a := 0) (b := 255) (v := 255) (by decide +kernel)
theorem dX40_edgeOf_20 : decode cX40_edgeOf 20 = .ok (.if_icmp .ne 14, 3) := dc_160 (a := 0) (b := 14) (v := 14) (by decide +kernel)
theorem dX40_edgeOf_23 : decode cX40_edgeOf 23 = .ok (.aload_n 0, 1) := dc_42 (by decide +kernel)
theorem dX40_edgeOf_24 : decode cX40_edgeOf 24 = .ok (.bipush 6, 2) := dc_16 (a := 6) (v := 6) (by decide +kernel)
theorem dX40_edgeOf_26 : decode cX40_edgeOf 26 = .ok (.iconst 0, 1) := dc_3 (by decide +kernel)
theorem dX40_edgeOf_27 : decode cX40_edgeOf 27 = .ok (.iconst 1, 1) := dc_4 (by decide +kernel)
theorem dX40_edgeOf_28 : decode cX40_edgeOf 28 = .ok (.invokestatic 32, 3) := dc_184 (a := 0) (b := 32) (n := 32) (by decide +kernel)
theorem dX40_edgeOf_31 : decode cX40_edgeOf 31 = .ok (.goto 4, 3) := dc_167 (a := 0) (b := 4) (v := 4) (by decide +kernel)
theorem dX40_edgeOf_34 : decode cX40_edgeOf 34 = .ok (.iconst (-1), 1) := dc_2 (by decide +kernel)
theorem dX40_edgeOf_35 : decode cX40_edgeOf 35 = .ok (.ireturn, 1) := dc_172 (by decide +kernel)
def fX40_edgeOf_b35 (N : Nat) (s0 : Int32) (h : eH) : Option (Int32 × eH) :=
  some (s0, h)
theorem pX40_edgeOf_b35 {w : eW} {d : Nat} (hd : 4 ≤ d + 1) {N : Nat} {s0 : Int32} {h : eH} {q} (hf : fX40_edgeOf_b35 N s0 h = some q) : wp w (d + 1) YX40_edgeOf 35 [none] [.int s0] h (e_is (e_rn c_I q)) := by
  unfold fX40_edgeOf_b35 at hf
  cases hf
  exact w_iret dX40_edgeOf_35 rfl rfl rfl
def fX40_edgeOf_b34 (N : Nat)  (h : eH) : Option (Int32 × eH) :=
  fX40_edgeOf_b35 N (-1 : Int32) h
theorem pX40_edgeOf_b34 {w : eW} {d : Nat} (hd : 4 ≤ d + 1) {N : Nat}  {h : eH} {q} (hf : fX40_edgeOf_b34 N h = some q) : wp w (d + 1) YX40_edgeOf 34 [none] [] h (e_is (e_rn c_I q)) := by
  unfold fX40_edgeOf_b34 at hf
  refine w_iconst dX40_edgeOf_34 (v := -1) (by decide) ?_
  exact (pX40_edgeOf_b35 hd hf).to trivial
def fX40_edgeOf (N : Nat) (p0 : Nat) (h : eH) : Option (Int32 × eH) :=
  (fX40_words p0 (6 : Int32) h).bind fun q1 =>
  if q1.1 ≤ 0 then
    fX40_edgeOf_b34 N q1.2
  else
    (fX40_at N p0 (6 : Int32) (0 : Int32) (0 : Int32) q1.2).bind fun q3 =>
    if ¬ q3.1 = (255 : Int32) then
      fX40_edgeOf_b34 N q3.2
    else
      (fX40_at N p0 (6 : Int32) (0 : Int32) (1 : Int32) q3.2).bind fun q5 =>
      fX40_edgeOf_b35 N q5.1 q5.2
theorem pX40_edgeOf {w : eW} {d : Nat} (hd : 4 ≤ d) {N : Nat} {p0 : Nat} {h : eH} {q} (hf : fX40_edgeOf N p0 h = some q) : wm w d YX40_edgeOf [.ref p0] h (e_is (e_rn c_I q)) := by
  obtain ⟨d, rfl⟩ : ∃ e, d = e + 1 := ⟨d - 1, by omega⟩
  show wp w (d + 1) YX40_edgeOf 0 [some (.ref p0)] [] h _
  unfold fX40_edgeOf at hf
  refine w_aload_n dX40_edgeOf_0 rfl rfl ?_
  refine w_bipush dX40_edgeOf_1 (v := 6) (by decide) ?_
  refine x_cnI hf (e_stS (Yc := YX40_words) (av := [.ref p0, .int (6 : Int32)]) (st := []) dX40_edgeOf_3 q4919 mX40_words) mX40_words.2.2.1 mX40_words.2.2.2.2.1 (Nat.le_of_ble_eq_true rfl) (Nat.le_of_ble_eq_true rfl) (fun q hq => pX40_words (by omega) hq) (fun q1 hf => ?_)
  refine w_if_le 34 dX40_edgeOf_6 (by decide) (fun c2 => ?_) (fun c2 => ?_)
  · replace hf := (if_pos (show q1.1 ≤ 0 from c2)).symm.trans hf
    exact (pX40_edgeOf_b34 hd hf).to trivial
  · replace hf := (if_neg (show ¬ (q1.1 ≤ 0) from c2)).symm.trans hf
    refine w_aload_n dX40_edgeOf_9 rfl rfl ?_
    refine w_bipush dX40_edgeOf_10 (v := 6) (by decide) ?_
    refine w_iconst dX40_edgeOf_12 (v := 0) (by decide) ?_
    refine w_iconst dX40_edgeOf_13 (v := 0) (by decide) ?_
    refine x_cnI hf (e_stS (Yc := YX40_at) (av := [.ref p0, .int (6 : Int32), .int (0 : Int32), .int (0 : Int32)]) (st := []) dX40_edgeOf_14 q4928 mX40_at) mX40_at.2.2.1 mX40_at.2.2.2.2.1 (Nat.le_of_ble_eq_true rfl) (Nat.le_of_ble_eq_true rfl) (fun q hq => pX40_at (by omega) hq) (fun q3 hf => ?_)
    refine w_sipush dX40_edgeOf_17 (v := 255) (by decide) ?_
    refine w_icmp_ne 34 dX40_edgeOf_20 (by decide) (fun c4 => ?_) (fun c4 => ?_)
    · replace hf := (if_pos (show ¬ q3.1 = (255 : Int32) from c4)).symm.trans hf
      exact (pX40_edgeOf_b34 hd hf).to trivial
    · replace hf := (if_neg (show ¬ (¬ q3.1 = (255 : Int32)) from (fun z => z c4))).symm.trans hf
      refine w_aload_n dX40_edgeOf_23 rfl rfl ?_
      refine w_bipush dX40_edgeOf_24 (v := 6) (by decide) ?_
      refine w_iconst dX40_edgeOf_26 (v := 0) (by decide) ?_
      refine w_iconst dX40_edgeOf_27 (v := 1) (by decide) ?_
      refine x_cnI hf (e_stS (Yc := YX40_at) (av := [.ref p0, .int (6 : Int32), .int (0 : Int32), .int (1 : Int32)]) (st := []) dX40_edgeOf_28 q4928 mX40_at) mX40_at.2.2.1 mX40_at.2.2.2.2.1 (Nat.le_of_ble_eq_true rfl) (Nat.le_of_ble_eq_true rfl) (fun q hq => pX40_at (by omega) hq) (fun q5 hf => ?_)
      refine w_goto 35 dX40_edgeOf_31 (by decide) ?_
      exact (pX40_edgeOf_b35 hd hf).to trivial
abbrev cX40_tag : ByteArray := prog_41_method_9_code
def yX40_tag : MethodName := ⟨RX40, "tag", "([BI)I"⟩
def YX40_tag : eY := (yX40_tag, cX40_tag, 2, (Option.some FieldType.int), [])
theorem mX40_tag : e_ms YX40_tag 2 := ⟨q4942, q483, q4943, by decide, by decide +kernel, (e_sig (by decide +kernel))⟩
theorem dX40_tag_0 : decode cX40_tag 0 = .ok (.aload_n 0, 1) := dc_42 (by decide +kernel)
theorem dX40_tag_1 : decode cX40_tag 1 = .ok (.iconst 1, 1) := dc_4 (by decide +kernel)
theorem dX40_tag_2 : decode cX40_tag 2 = .ok (.iload_n 1, 1) := dc_27 (by decide +kernel)
theorem dX40_tag_3 : decode cX40_tag 3 = .ok (.aload_n 0, 1) := dc_42 (by decide +kernel)
theorem dX40_tag_4 : decode cX40_tag 4 = .ok (.iconst 2, 1) := dc_5 (by decide +kernel)
theorem dX40_tag_5 : decode cX40_tag 5 = .ok (.invokestatic 22, 3) := dc_184 (a := 0) (b := 22) (n := 22) (by decide +kernel)
theorem dX40_tag_8 : decode cX40_tag 8 = .ok (.isub, 1) := dc_100 (by decide +kernel)
theorem dX40_tag_9 : decode cX40_tag 9 = .ok (.iconst 2, 1) := dc_5 (by decide +kernel)
theorem dX40_tag_10 : decode cX40_tag 10 = .ok (.invokestatic 32, 3) := dc_184 (a := 0) (b := 32) (n := 32) (by decide +kernel)
theorem dX40_tag_13 : decode cX40_tag 13 = .ok (.iconst 4, 1) := dc_7 (by decide +kernel)
theorem dX40_tag_14 : decode cX40_tag 14 = .ok (.irem, 1) := dc_112 (by decide +kernel)
theorem dX40_tag_15 : decode cX40_tag 15 = .ok (.ireturn, 1) := dc_172 (by decide +kernel)
def fX40_tag (N : Nat) (p0 : Nat) (p1 : Int32) (h : eH) : Option (Int32 × eH) :=
  (fX40_half p0 (2 : Int32) h).bind fun q1 =>
  (fX40_at N p0 (1 : Int32) (p1 - q1.1) (2 : Int32) q1.2).bind fun q2 =>
  some ((q2.1 - q2.1 / (4 : Int32) * (4 : Int32)), q2.2)
theorem pX40_tag {w : eW} {d : Nat} (hd : 4 ≤ d) {N : Nat} {p0 : Nat} {p1 : Int32} {h : eH} {q} (hf : fX40_tag N p0 p1 h = some q) : wm w d YX40_tag [.ref p0, .int p1] h (e_is (e_rn c_I q)) := by
  obtain ⟨d, rfl⟩ : ∃ e, d = e + 1 := ⟨d - 1, by omega⟩
  show wp w (d + 1) YX40_tag 0 [some (.ref p0), some (.int p1)] [] h _
  unfold fX40_tag at hf
  refine w_aload_n dX40_tag_0 rfl rfl ?_
  refine w_iconst dX40_tag_1 (v := 1) (by decide) ?_
  refine w_iload_n dX40_tag_2 rfl rfl ?_
  refine w_aload_n dX40_tag_3 rfl rfl ?_
  refine w_iconst dX40_tag_4 (v := 2) (by decide) ?_
  refine x_cnI hf (e_stS (Yc := YX40_half) (av := [.ref p0, .int (2 : Int32)]) (st := [.int p1, .int (1 : Int32), .ref p0]) dX40_tag_5 q4916 mX40_half) mX40_half.2.2.1 mX40_half.2.2.2.2.1 (Nat.le_of_ble_eq_true rfl) (Nat.le_of_ble_eq_true rfl) (fun q hq => pX40_half (by omega) hq) (fun q1 hf => ?_)
  refine w_isub dX40_tag_8 ?_
  refine w_iconst dX40_tag_9 (v := 2) (by decide) ?_
  refine x_cnI hf (e_stS (Yc := YX40_at) (av := [.ref p0, .int (1 : Int32), .int (p1 - q1.1), .int (2 : Int32)]) (st := []) dX40_tag_10 q4928 mX40_at) mX40_at.2.2.1 mX40_at.2.2.2.2.1 (Nat.le_of_ble_eq_true rfl) (Nat.le_of_ble_eq_true rfl) (fun q hq => pX40_at (by omega) hq) (fun q2 hf => ?_)
  refine w_iconst dX40_tag_13 (v := 4) (by decide) ?_
  refine w_irem dX40_tag_14 (by decide) ?_
  cases hf
  exact w_iret dX40_tag_15 rfl rfl rfl
abbrev cX40_rest : ByteArray := prog_41_method_10_code
def yX40_rest : MethodName := ⟨RX40, "rest", "([BI)I"⟩
def YX40_rest : eY := (yX40_rest, cX40_rest, 2, (Option.some FieldType.int), [])
theorem mX40_rest : e_ms YX40_rest 2 := ⟨q4945, q483, q4946, by decide, by decide +kernel, (e_sig (by decide +kernel))⟩
theorem dX40_rest_0 : decode cX40_rest 0 = .ok (.aload_n 0, 1) := dc_42 (by decide +kernel)
theorem dX40_rest_1 : decode cX40_rest 1 = .ok (.iconst 1, 1) := dc_4 (by decide +kernel)
theorem dX40_rest_2 : decode cX40_rest 2 = .ok (.iload_n 1, 1) := dc_27 (by decide +kernel)
theorem dX40_rest_3 : decode cX40_rest 3 = .ok (.aload_n 0, 1) := dc_42 (by decide +kernel)
theorem dX40_rest_4 : decode cX40_rest 4 = .ok (.iconst 2, 1) := dc_5 (by decide +kernel)
theorem dX40_rest_5 : decode cX40_rest 5 = .ok (.invokestatic 22, 3) := dc_184 (a := 0) (b := 22) (n := 22) (by decide +kernel)
theorem dX40_rest_8 : decode cX40_rest 8 = .ok (.isub, 1) := dc_100 (by decide +kernel)
theorem dX40_rest_9 : decode cX40_rest 9 = .ok (.iconst 3, 1) := dc_6 (by decide +kernel)
theorem dX40_rest_10 : decode cX40_rest 10 = .ok (.invokestatic 32, 3) := dc_184 (a := 0) (b := 32) (n := 32) (by decide +kernel)
theorem dX40_rest_13 : decode cX40_rest 13 = .ok (.ireturn, 1) := dc_172 (by decide +kernel)
def fX40_rest (N : Nat) (p0 : Nat) (p1 : Int32) (h : eH) : Option (Int32 × eH) :=
  (fX40_half p0 (2 : Int32) h).bind fun q1 =>
  (fX40_at N p0 (1 : Int32) (p1 - q1.1) (3 : Int32) q1.2).bind fun q2 =>
  some (q2.1, q2.2)
theorem pX40_rest {w : eW} {d : Nat} (hd : 4 ≤ d) {N : Nat} {p0 : Nat} {p1 : Int32} {h : eH} {q} (hf : fX40_rest N p0 p1 h = some q) : wm w d YX40_rest [.ref p0, .int p1] h (e_is (e_rn c_I q)) := by
  obtain ⟨d, rfl⟩ : ∃ e, d = e + 1 := ⟨d - 1, by omega⟩
  show wp w (d + 1) YX40_rest 0 [some (.ref p0), some (.int p1)] [] h _
  unfold fX40_rest at hf
  refine w_aload_n dX40_rest_0 rfl rfl ?_
  refine w_iconst dX40_rest_1 (v := 1) (by decide) ?_
  refine w_iload_n dX40_rest_2 rfl rfl ?_
  refine w_aload_n dX40_rest_3 rfl rfl ?_
  refine w_iconst dX40_rest_4 (v := 2) (by decide) ?_
  refine x_cnI hf (e_stS (Yc := YX40_half) (av := [.ref p0, .int (2 : Int32)]) (st := [.int p1, .int (1 : Int32), .ref p0]) dX40_rest_5 q4916 mX40_half) mX40_half.2.2.1 mX40_half.2.2.2.2.1 (Nat.le_of_ble_eq_true rfl) (Nat.le_of_ble_eq_true rfl) (fun q hq => pX40_half (by omega) hq) (fun q1 hf => ?_)
  refine w_isub dX40_rest_8 ?_
  refine w_iconst dX40_rest_9 (v := 3) (by decide) ?_
  refine x_cnI hf (e_stS (Yc := YX40_at) (av := [.ref p0, .int (1 : Int32), .int (p1 - q1.1), .int (3 : Int32)]) (st := []) dX40_rest_10 q4928 mX40_at) mX40_at.2.2.1 mX40_at.2.2.2.2.1 (Nat.le_of_ble_eq_true rfl) (Nat.le_of_ble_eq_true rfl) (fun q hq => pX40_at (by omega) hq) (fun q2 hf => ?_)
  cases hf
  exact w_iret dX40_rest_13 rfl rfl rfl
abbrev cX40_found : ByteArray := prog_41_method_30_code
def yX40_found : MethodName := ⟨RX40, "found", "(II)I"⟩
def YX40_found : eY := (yX40_found, cX40_found, 5, (Option.some FieldType.int), [])
theorem mX40_found : e_mv YX40_found RX40 2 := ⟨q5696, qs356, q5697, by decide, by decide +kernel, (e_sig (by decide +kernel))⟩
theorem dX40_found_0 : decode cX40_found 0 = .ok (.iload_n 1, 1) := dc_27 (by decide +kernel)
theorem dX40_found_1 : decode cX40_found 1 = .ok (.sipush 256, 3) := dc_17 (a := 1) (b := 0) (v := 256) (by decide +kernel)
theorem dX40_found_4 : decode cX40_found 4 = .ok (.if_icmp .ne 13, 3) := dc_160 (a := 0) (b := 13) (v := 13) (by decide +kernel)
theorem dX40_found_7 : decode cX40_found 7 = .ok (.aload_n 0, 1) := dc_42 (by decide +kernel)
theorem dX40_found_8 : decode cX40_found 8 = .ok (.getfield 9, 3) := dc_180 (a := 0) (b := 9) (n := 9) (by decide +kernel)
theorem dX40_found_11 : decode cX40_found 11 = .ok (.invokestatic 98, 3) := dc_184 (a := 0) (b := 98) (n := 98) (by decide +kernel)
theorem dX40_found_14 : decode cX40_found 14 = .ok (.goto 27, 3) := dc_167 (a := 0) (b := 27) (v := 27) (by decide +kernel)
theorem dX40_found_17 : decode cX40_found 17 = .ok (.aload_n 0, 1) := dc_42 (by decide +kernel)
theorem dX40_found_18 : decode cX40_found 18 = .ok (.getfield 9, 3) := dc_180 (a := 0) (b := 9) (n := 9) (by decide +kernel)
theorem dX40_found_21 : decode cX40_found 21 = .ok (.iload_n 1, 1) := dc_27 (by decide +kernel)
theorem dX40_found_22 : decode cX40_found 22 = .ok (.invokestatic 46, 3) := dc_184 (a := 0) (b := 46) (n := 46) (by decide +kernel)
theorem dX40_found_25 : decode cX40_found 25 = .ok (.iconst 1, 1) := dc_4 (by decide +kernel)
theorem dX40_found_26 : decode cX40_found 26 = .ok (.if_icmp .ne 14, 3) := dc_160 (a := 0) (b := 14) (v := 14) (by decide +kernel)
theorem dX40_found_29 : decode cX40_found 29 = .ok (.aload_n 0, 1) := dc_42 (by decide +kernel)
theorem dX40_found_30 : decode cX40_found 30 = .ok (.getfield 9, 3) := dc_180 (a := 0) (b := 9) (n := 9) (by decide +kernel)
theorem dX40_found_33 : decode cX40_found 33 = .ok (.iload_n 1, 1) := dc_27 (by decide +kernel)
theorem dX40_found_34 : decode cX40_found 34 = .ok (.invokestatic 39, 3) := dc_184 (a := 0) (b := 39) (n := 39) (by decide +kernel)
theorem dX40_found_37 : decode cX40_found 37 = .ok (.goto 4, 3) := dc_167 (a := 0) (b := 4) (v := 4) (by decide +kernel)
theorem dX40_found_40 : decode cX40_found 40 = .ok (.iconst (-1), 1) := dc_2 (by decide +kernel)
theorem dX40_found_41 : decode cX40_found 41 = .ok (.istore_n 3, 1) := dc_62 (by decide +kernel)
theorem dX40_found_42 : decode cX40_found 42 = .ok (.iload_n 2, 1) := dc_28 (by decide +kernel)
theorem dX40_found_43 : decode cX40_found 43 = .ok (.sipush 256, 3) := dc_17 (a := 1) (b := 0) (v := 256) (by decide +kernel)
theorem dX40_found_46 : decode cX40_found 46 = .ok (.if_icmp .ne 13, 3) := dc_160 (a := 0) (b := 13) (v := 13) (by decide +kernel)
theorem dX40_found_49 : decode cX40_found 49 = .ok (.aload_n 0, 1) := dc_42 (by decide +kernel)
theorem dX40_found_50 : decode cX40_found 50 = .ok (.getfield 9, 3) := dc_180 (a := 0) (b := 9) (n := 9) (by decide +kernel)
theorem dX40_found_53 : decode cX40_found 53 = .ok (.invokestatic 56, 3) := dc_184 (a := 0) (b := 56) (n := 56) (by decide +kernel)
theorem dX40_found_56 : decode cX40_found 56 = .ok (.goto 4, 3) := dc_167 (a := 0) (b := 4) (v := 4) (by decide +kernel)
theorem dX40_found_59 : decode cX40_found 59 = .ok (.iload_n 2, 1) := dc_28 (by decide +kernel)
theorem dX40_found_60 : decode cX40_found 60 = .ok (.istore 4, 2) := dc_54 (a := 4) (by decide +kernel)
theorem dX40_found_62 : decode cX40_found 62 = .ok (.iload_n 3, 1) := dc_29 (by decide +kernel)
theorem dX40_found_63 : decode cX40_found 63 = .ok (.ifCond .lt 8, 3) := dc_155 (a := 0) (b := 8) (v := 8) (by decide +kernel)
theorem dX40_found_66 : decode cX40_found 66 = .ok (.iload 4, 2) := dc_21 (a := 4) (by decide +kernel)
theorem dX40_found_68 : decode cX40_found 68 = .ok (.ifCond .ge 5, 3) := dc_156 (a := 0) (b := 5) (v := 5) (by decide +kernel)
theorem dX40_found_71 : decode cX40_found 71 = .ok (.iconst (-1), 1) := dc_2 (by decide +kernel)
theorem dX40_found_72 : decode cX40_found 72 = .ok (.ireturn, 1) := dc_172 (by decide +kernel)
theorem dX40_found_73 : decode cX40_found 73 = .ok (.aload_n 0, 1) := dc_42 (by decide +kernel)
theorem dX40_found_74 : decode cX40_found 74 = .ok (.getfield 9, 3) := dc_180 (a := 0) (b := 9) (n := 9) (by decide +kernel)
theorem dX40_found_77 : decode cX40_found 77 = .ok (.bipush 6, 2) := dc_16 (a := 6) (v := 6) (by decide +kernel)
theorem dX40_found_79 : decode cX40_found 79 = .ok (.iload_n 3, 1) := dc_29 (by decide +kernel)
theorem dX40_found_80 : decode cX40_found 80 = .ok (.iconst 0, 1) := dc_3 (by decide +kernel)
theorem dX40_found_81 : decode cX40_found 81 = .ok (.invokestatic 32, 3) := dc_184 (a := 0) (b := 32) (n := 32) (by decide +kernel)
theorem dX40_found_84 : decode cX40_found 84 = .ok (.sipush 128, 3) := dc_17 (a := 0) (b := 128) (v := 128) (by decide +kernel)
theorem dX40_found_87 : decode cX40_found 87 = .ok (.if_icmp .le 14, 3) := dc_164 (a := 0) (b := 14) (v := 14) (by decide +kernel)
theorem dX40_found_90 : decode cX40_found 90 = .ok (.aload_n 0, 1) := dc_42 (by decide +kernel)
theorem dX40_found_91 : decode cX40_found 91 = .ok (.getfield 9, 3) := dc_180 (a := 0) (b := 9) (n := 9) (by decide +kernel)
theorem dX40_found_94 : decode cX40_found 94 = .ok (.iload_n 3, 1) := dc_29 (by decide +kernel)
theorem dX40_found_95 : decode cX40_found 95 = .ok (.invokestatic 36, 3) := dc_184 (a := 0) (b := 36) (n := 36) (by decide +kernel)
theorem dX40_found_98 : decode cX40_found 98 = .ok (.goto 4, 3) := dc_167 (a := 0) (b := 4) (v := 4) (by decide +kernel)
theorem dX40_found_101 : decode cX40_found 101 = .ok (.iload_n 3, 1) := dc_29 (by decide +kernel)
theorem dX40_found_102 : decode cX40_found 102 = .ok (.istore_n 3, 1) := dc_62 (by decide +kernel)
theorem dX40_found_103 : decode cX40_found 103 = .ok (.aload_n 0, 1) := dc_42 (by decide +kernel)
theorem dX40_found_104 : decode cX40_found 104 = .ok (.getfield 9, 3) := dc_180 (a := 0) (b := 9) (n := 9) (by decide +kernel)
theorem dX40_found_107 : decode cX40_found 107 = .ok (.bipush 6, 2) := dc_16 (a := 6) (v := 6) (by decide +kernel)
theorem dX40_found_109 : decode cX40_found 109 = .ok (.iload_n 3, 1) := dc_29 (by decide +kernel)
theorem dX40_found_110 : decode cX40_found 110 = .ok (.iconst 0, 1) := dc_3 (by decide +kernel)
theorem dX40_found_111 : decode cX40_found 111 = .ok (.invokestatic 32, 3) := dc_184 (a := 0) (b := 32) (n := 32) (by decide +kernel)
theorem dX40_found_114 : decode cX40_found 114 = .ok (.sipush 128, 3) := dc_17 (a := 0) (b := 128) (v := 128) (by decide +kernel)
theorem dX40_found_117 : decode cX40_found 117 = .ok (.if_icmp .gt 59, 3) := dc_163 (a := 0) (b := 59) (v := 59) (by decide +kernel)
theorem dX40_found_120 : decode cX40_found 120 = .ok (.aload_n 0, 1) := dc_42 (by decide +kernel)
theorem dX40_found_121 : decode cX40_found 121 = .ok (.getfield 9, 3) := dc_180 (a := 0) (b := 9) (n := 9) (by decide +kernel)
theorem dX40_found_124 : decode cX40_found 124 = .ok (.bipush 6, 2) := dc_16 (a := 6) (v := 6) (by decide +kernel)
theorem dX40_found_126 : decode cX40_found 126 = .ok (.iload_n 3, 1) := dc_29 (by decide +kernel)
theorem dX40_found_127 : decode cX40_found 127 = .ok (.iconst 1, 1) := dc_4 (by decide +kernel)
theorem dX40_found_128 : decode cX40_found 128 = .ok (.invokestatic 32, 3) := dc_184 (a := 0) (b := 32) (n := 32) (by decide +kernel)
theorem dX40_found_131 : decode cX40_found 131 = .ok (.iload 4, 2) := dc_21 (a := 4) (by decide +kernel)
theorem dX40_found_133 : decode cX40_found 133 = .ok (.if_icmp .ne 5, 3) := dc_160 (a := 0) (b := 5) (v := 5) (by decide +kernel)
theorem dX40_found_136 : decode cX40_found 136 = .ok (.iload_n 3, 1) := dc_29 (by decide +kernel)
theorem dX40_found_137 : decode cX40_found 137 = .ok (.ireturn, 1) := dc_172 (by decide +kernel)
theorem dX40_found_138 : decode cX40_found 138 = .ok (.aload_n 0, 1) := dc_42 (by decide +kernel)
theorem dX40_found_139 : decode cX40_found 139 = .ok (.getfield 9, 3) := dc_180 (a := 0) (b := 9) (n := 9) (by decide +kernel)
theorem dX40_found_142 : decode cX40_found 142 = .ok (.bipush 6, 2) := dc_16 (a := 6) (v := 6) (by decide +kernel)
theorem dX40_found_144 : decode cX40_found 144 = .ok (.iload_n 3, 1) := dc_29 (by decide +kernel)
theorem dX40_found_145 : decode cX40_found 145 = .ok (.iconst 0, 1) := dc_3 (by decide +kernel)
theorem dX40_found_146 : decode cX40_found 146 = .ok (.invokestatic 32, 3) := dc_184 (a := 0) (b := 32) (n := 32) (by decide +kernel)
theorem dX40_found_149 : decode cX40_found 149 = .ok (.sipush 128, 3) := dc_17 (a := 0) (b := 128) (v := 128) (by decide +kernel)
theorem dX40_found_152 : decode cX40_found 152 = .ok (.if_icmp .ne 5, 3) := dc_160 (a := 0) (b := 5) (v := 5) (by decide +kernel)
theorem dX40_found_155 : decode cX40_found 155 = .ok (.iconst (-1), 1) := dc_2 (by decide +kernel)
theorem dX40_found_156 : decode cX40_found 156 = .ok (.ireturn, 1) := dc_172 (by decide +kernel)
theorem dX40_found_157 : decode cX40_found 157 = .ok (.iload_n 3, 1) := dc_29 (by decide +kernel)
theorem dX40_found_158 : decode cX40_found 158 = .ok (.aload_n 0, 1) := dc_42 (by decide +kernel)
theorem dX40_found_159 : decode cX40_found 159 = .ok (.getfield 9, 3) := dc_180 (a := 0) (b := 9) (n := 9) (by decide +kernel)
theorem dX40_found_162 : decode cX40_found 162 = .ok (.bipush 6, 2) := dc_16 (a := 6) (v := 6) (by decide +kernel)
theorem dX40_found_164 : decode cX40_found 164 = .ok (.iload_n 3, 1) := dc_29 (by decide +kernel)
theorem dX40_found_165 : decode cX40_found 165 = .ok (.iconst 0, 1) := dc_3 (by decide +kernel)
theorem dX40_found_166 : decode cX40_found 166 = .ok (.invokestatic 32, 3) := dc_184 (a := 0) (b := 32) (n := 32) (by decide +kernel)
theorem dX40_found_169 : decode cX40_found 169 = .ok (.iadd, 1) := dc_96 (by decide +kernel)
theorem dX40_found_170 : decode cX40_found 170 = .ok (.iconst 1, 1) := dc_4 (by decide +kernel)
theorem dX40_found_171 : decode cX40_found 171 = .ok (.iadd, 1) := dc_96 (by decide +kernel)
theorem dX40_found_172 : decode cX40_found 172 = .ok (.istore_n 3, 1) := dc_62 (by decide +kernel)
theorem dX40_found_173 : decode cX40_found 173 = .ok (.goto (-70), 3) := dc_167 (a := 255) (b := 186) (v := -70) (by decide +kernel)
theorem dX40_found_176 : decode cX40_found 176 = .ok (.iconst (-1), 1) := dc_2 (by decide +kernel)
theorem dX40_found_177 : decode cX40_found 177 = .ok (.ireturn, 1) := dc_172 (by decide +kernel)
def fX40_found_b71 (N : Nat)  (h : eH) : Option (Int32 × eH) :=
  some ((-1 : Int32), h)
theorem pX40_found_b71 {w : eW} {d : Nat} (hd : 6 ≤ d + 1) {N : Nat}  {h : eH} {q} (hf : fX40_found_b71 N h = some q) : wp w (d + 1) YX40_found 71 [none, none, none, none, none] [] h (e_is (e_rn c_I q)) := by
  unfold fX40_found_b71 at hf
  refine w_iconst dX40_found_71 (v := -1) (by decide) ?_
  cases hf
  exact w_iret dX40_found_72 rfl rfl rfl
def fX40_found_b103 (N : Nat) : Nat → Nat → Int32 → Int32 → eH → Option (Int32 × eH)
  | 0, _, _, _, _ => none
  | n + 1, l0, l3, l4, h =>
    (g_A 42 h l0 0).bind fun a1 =>
    (fX40_at N a1 (6 : Int32) l3 (0 : Int32) h).bind fun q3 =>
    if (128 : Int32) < q3.1 then
      some ((-1 : Int32), q3.2)
    else
      (g_A 42 q3.2 l0 0).bind fun a5 =>
      (fX40_at N a5 (6 : Int32) l3 (1 : Int32) q3.2).bind fun q7 =>
      if ¬ q7.1 = l4 then
        (g_A 42 q7.2 l0 0).bind fun a9 =>
        (fX40_at N a9 (6 : Int32) l3 (0 : Int32) q7.2).bind fun q11 =>
        if ¬ q11.1 = (128 : Int32) then
          (g_A 42 q11.2 l0 0).bind fun a13 =>
          (fX40_at N a13 (6 : Int32) l3 (0 : Int32) q11.2).bind fun q15 =>
          fX40_found_b103 N n l0 ((l3 + q15.1) + (1 : Int32)) l4 q15.2
        else
          some ((-1 : Int32), q11.2)
      else
        some (l3, q7.2)
theorem pX40_found_b103 {w : eW} {d : Nat} (hd : 6 ≤ d + 1) {N : Nat} : ∀ (n : Nat) l0 l3 l4 h q, fX40_found_b103 N n l0 l3 l4 h = some q → wp w (d + 1) YX40_found 103 [some (.ref l0), none, none, some (.int l3), some (.int l4)] [] h (e_is (e_rn c_I q)) := by
  intro n
  induction n with
  | zero => intro l0 l3 l4 h q hf; simp [fX40_found_b103] at hf
  | succ n ih =>
    intro l0 l3 l4 h q hf
    rw [fX40_found_b103] at hf
    refine w_aload_n dX40_found_103 rfl rfl ?_
    obtain ⟨a1, b2, hf⟩ := Option.bind_eq_some_iff.mp hf
    refine GX40_9 b2 dX40_found_104 rfl ?_
    refine w_bipush dX40_found_107 (v := 6) (by decide) ?_
    refine w_iload_n dX40_found_109 rfl rfl ?_
    refine w_iconst dX40_found_110 (v := 0) (by decide) ?_
    refine x_cnI hf (e_stS (Yc := YX40_at) (av := [.ref a1, .int (6 : Int32), .int l3, .int (0 : Int32)]) (st := []) dX40_found_111 q4928 mX40_at) mX40_at.2.2.1 mX40_at.2.2.2.2.1 (Nat.le_of_ble_eq_true rfl) (Nat.le_of_ble_eq_true rfl) (fun q hq => pX40_at (by omega) hq) (fun q3 hf => ?_)
    refine w_sipush dX40_found_114 (v := 128) (by decide) ?_
    refine w_icmp_gt 176 dX40_found_117 (by decide) (fun c4 => ?_) (fun c4 => ?_)
    · replace hf := (if_pos (show (128 : Int32) < q3.1 from c4)).symm.trans hf
      refine w_iconst dX40_found_176 (v := -1) (by decide) ?_
      cases hf
      exact w_iret dX40_found_177 rfl rfl rfl
    · replace hf := (if_neg (show ¬ ((128 : Int32) < q3.1) from c4)).symm.trans hf
      refine w_aload_n dX40_found_120 rfl rfl ?_
      obtain ⟨a5, b6, hf⟩ := Option.bind_eq_some_iff.mp hf
      refine GX40_9 b6 dX40_found_121 rfl ?_
      refine w_bipush dX40_found_124 (v := 6) (by decide) ?_
      refine w_iload_n dX40_found_126 rfl rfl ?_
      refine w_iconst dX40_found_127 (v := 1) (by decide) ?_
      refine x_cnI hf (e_stS (Yc := YX40_at) (av := [.ref a5, .int (6 : Int32), .int l3, .int (1 : Int32)]) (st := []) dX40_found_128 q4928 mX40_at) mX40_at.2.2.1 mX40_at.2.2.2.2.1 (Nat.le_of_ble_eq_true rfl) (Nat.le_of_ble_eq_true rfl) (fun q hq => pX40_at (by omega) hq) (fun q7 hf => ?_)
      refine w_iload dX40_found_131 rfl ?_
      refine w_icmp_ne 138 dX40_found_133 (by decide) (fun c8 => ?_) (fun c8 => ?_)
      · replace hf := (if_pos (show ¬ q7.1 = l4 from c8)).symm.trans hf
        refine w_aload_n dX40_found_138 rfl rfl ?_
        obtain ⟨a9, b10, hf⟩ := Option.bind_eq_some_iff.mp hf
        refine GX40_9 b10 dX40_found_139 rfl ?_
        refine w_bipush dX40_found_142 (v := 6) (by decide) ?_
        refine w_iload_n dX40_found_144 rfl rfl ?_
        refine w_iconst dX40_found_145 (v := 0) (by decide) ?_
        refine x_cnI hf (e_stS (Yc := YX40_at) (av := [.ref a9, .int (6 : Int32), .int l3, .int (0 : Int32)]) (st := []) dX40_found_146 q4928 mX40_at) mX40_at.2.2.1 mX40_at.2.2.2.2.1 (Nat.le_of_ble_eq_true rfl) (Nat.le_of_ble_eq_true rfl) (fun q hq => pX40_at (by omega) hq) (fun q11 hf => ?_)
        refine w_sipush dX40_found_149 (v := 128) (by decide) ?_
        refine w_icmp_ne 157 dX40_found_152 (by decide) (fun c12 => ?_) (fun c12 => ?_)
        · replace hf := (if_pos (show ¬ q11.1 = (128 : Int32) from c12)).symm.trans hf
          refine w_iload_n dX40_found_157 rfl rfl ?_
          refine w_aload_n dX40_found_158 rfl rfl ?_
          obtain ⟨a13, b14, hf⟩ := Option.bind_eq_some_iff.mp hf
          refine GX40_9 b14 dX40_found_159 rfl ?_
          refine w_bipush dX40_found_162 (v := 6) (by decide) ?_
          refine w_iload_n dX40_found_164 rfl rfl ?_
          refine w_iconst dX40_found_165 (v := 0) (by decide) ?_
          refine x_cnI hf (e_stS (Yc := YX40_at) (av := [.ref a13, .int (6 : Int32), .int l3, .int (0 : Int32)]) (st := [.int l3]) dX40_found_166 q4928 mX40_at) mX40_at.2.2.1 mX40_at.2.2.2.2.1 (Nat.le_of_ble_eq_true rfl) (Nat.le_of_ble_eq_true rfl) (fun q hq => pX40_at (by omega) hq) (fun q15 hf => ?_)
          refine w_iadd dX40_found_169 ?_
          refine w_iconst dX40_found_170 (v := 1) (by decide) ?_
          refine w_iadd dX40_found_171 ?_
          refine w_istore_n dX40_found_172 rfl (by decide) (ls' := [some (.ref l0), none, none, some (.int ((l3 + q15.1) + (1 : Int32))), some (.int l4)]) rfl ?_
          refine w_goto 103 dX40_found_173 (by decide) ?_
          exact (ih _ _ _ _ _ hf).to ⟨rfl, rfl, rfl, trivial⟩
        · replace hf := (if_neg (show ¬ (¬ q11.1 = (128 : Int32)) from (fun z => z c12))).symm.trans hf
          refine w_iconst dX40_found_155 (v := -1) (by decide) ?_
          cases hf
          exact w_iret dX40_found_156 rfl rfl rfl
      · replace hf := (if_neg (show ¬ (¬ q7.1 = l4) from (fun z => z c8))).symm.trans hf
        refine w_iload_n dX40_found_136 rfl rfl ?_
        cases hf
        exact w_iret dX40_found_137 rfl rfl rfl
def fX40_found_b102 (N : Nat) (l0 : Nat) (l4 : Int32) (s0 : Int32) (h : eH) : Option (Int32 × eH) :=
  fX40_found_b103 N N l0 s0 l4 h
theorem pX40_found_b102 {w : eW} {d : Nat} (hd : 6 ≤ d + 1) {N : Nat} {l0 : Nat} {l4 : Int32} {s0 : Int32} {h : eH} {q} (hf : fX40_found_b102 N l0 l4 s0 h = some q) : wp w (d + 1) YX40_found 102 [some (.ref l0), none, none, none, some (.int l4)] [.int s0] h (e_is (e_rn c_I q)) := by
  unfold fX40_found_b102 at hf
  refine w_istore_n dX40_found_102 rfl (by decide) (ls' := [some (.ref l0), none, none, some (.int s0), some (.int l4)]) rfl ?_
  exact (pX40_found_b103 hd N _ _ _ _ _ hf).to ⟨rfl, rfl, rfl, trivial⟩
def fX40_found_b60 (N : Nat) (l0 : Nat) (l3 : Int32) (s0 : Int32) (h : eH) : Option (Int32 × eH) :=
  if l3 < 0 then
    fX40_found_b71 N h
  else
    if 0 ≤ s0 then
      (g_A 42 h l0 0).bind fun a3 =>
      (fX40_at N a3 (6 : Int32) l3 (0 : Int32) h).bind fun q5 =>
      if q5.1 ≤ (128 : Int32) then
        fX40_found_b102 N l0 s0 l3 q5.2
      else
        (g_A 42 q5.2 l0 0).bind fun a7 =>
        (fX40_far N a7 l3 q5.2).bind fun q9 =>
        fX40_found_b102 N l0 s0 q9.1 q9.2
    else
      fX40_found_b71 N h
theorem pX40_found_b60 {w : eW} {d : Nat} (hd : 6 ≤ d + 1) {N : Nat} {l0 : Nat} {l3 : Int32} {s0 : Int32} {h : eH} {q} (hf : fX40_found_b60 N l0 l3 s0 h = some q) : wp w (d + 1) YX40_found 60 [some (.ref l0), none, none, some (.int l3), none] [.int s0] h (e_is (e_rn c_I q)) := by
  unfold fX40_found_b60 at hf
  refine w_istore dX40_found_60 (by decide) (ls' := [some (.ref l0), none, none, some (.int l3), some (.int s0)]) rfl ?_
  refine w_iload_n dX40_found_62 rfl rfl ?_
  refine w_if_lt 71 dX40_found_63 (by decide) (fun c1 => ?_) (fun c1 => ?_)
  · replace hf := (if_pos (show l3 < 0 from c1)).symm.trans hf
    exact (pX40_found_b71 hd hf).to trivial
  · replace hf := (if_neg (show ¬ (l3 < 0) from c1)).symm.trans hf
    refine w_iload dX40_found_66 rfl ?_
    refine w_if_ge 73 dX40_found_68 (by decide) (fun c2 => ?_) (fun c2 => ?_)
    · replace hf := (if_pos (show 0 ≤ s0 from c2)).symm.trans hf
      refine w_aload_n dX40_found_73 rfl rfl ?_
      obtain ⟨a3, b4, hf⟩ := Option.bind_eq_some_iff.mp hf
      refine GX40_9 b4 dX40_found_74 rfl ?_
      refine w_bipush dX40_found_77 (v := 6) (by decide) ?_
      refine w_iload_n dX40_found_79 rfl rfl ?_
      refine w_iconst dX40_found_80 (v := 0) (by decide) ?_
      refine x_cnI hf (e_stS (Yc := YX40_at) (av := [.ref a3, .int (6 : Int32), .int l3, .int (0 : Int32)]) (st := []) dX40_found_81 q4928 mX40_at) mX40_at.2.2.1 mX40_at.2.2.2.2.1 (Nat.le_of_ble_eq_true rfl) (Nat.le_of_ble_eq_true rfl) (fun q hq => pX40_at (by omega) hq) (fun q5 hf => ?_)
      refine w_sipush dX40_found_84 (v := 128) (by decide) ?_
      refine w_icmp_le 101 dX40_found_87 (by decide) (fun c6 => ?_) (fun c6 => ?_)
      · replace hf := (if_pos (show q5.1 ≤ (128 : Int32) from c6)).symm.trans hf
        refine w_iload_n dX40_found_101 rfl rfl ?_
        exact (pX40_found_b102 hd hf).to ⟨rfl, rfl, trivial⟩
      · replace hf := (if_neg (show ¬ (q5.1 ≤ (128 : Int32)) from c6)).symm.trans hf
        refine w_aload_n dX40_found_90 rfl rfl ?_
        obtain ⟨a7, b8, hf⟩ := Option.bind_eq_some_iff.mp hf
        refine GX40_9 b8 dX40_found_91 rfl ?_
        refine w_iload_n dX40_found_94 rfl rfl ?_
        refine x_cnI hf (e_stS (Yc := YX40_far) (av := [.ref a7, .int l3]) (st := []) dX40_found_95 q4962 mX40_far) mX40_far.2.2.1 mX40_far.2.2.2.2.1 (Nat.le_of_ble_eq_true rfl) (Nat.le_of_ble_eq_true rfl) (fun q hq => pX40_far (by omega) hq) (fun q9 hf => ?_)
        refine w_goto 102 dX40_found_98 (by decide) ?_
        exact (pX40_found_b102 hd hf).to ⟨rfl, rfl, trivial⟩
    · replace hf := (if_neg (show ¬ (0 ≤ s0) from c2)).symm.trans hf
      exact (pX40_found_b71 hd hf).to trivial
def fX40_found_b41 (N : Nat) (l0 : Nat) (l2 : Int32) (s0 : Int32) (h : eH) : Option (Int32 × eH) :=
  if ¬ l2 = (256 : Int32) then
    fX40_found_b60 N l0 s0 l2 h
  else
    (g_A 42 h l0 0).bind fun a2 =>
    (fX40_edgeOf N a2 h).bind fun q4 =>
    fX40_found_b60 N l0 s0 q4.1 q4.2
theorem pX40_found_b41 {w : eW} {d : Nat} (hd : 6 ≤ d + 1) {N : Nat} {l0 : Nat} {l2 : Int32} {s0 : Int32} {h : eH} {q} (hf : fX40_found_b41 N l0 l2 s0 h = some q) : wp w (d + 1) YX40_found 41 [some (.ref l0), none, some (.int l2), none, none] [.int s0] h (e_is (e_rn c_I q)) := by
  unfold fX40_found_b41 at hf
  refine w_istore_n dX40_found_41 rfl (by decide) (ls' := [some (.ref l0), none, some (.int l2), some (.int s0), none]) rfl ?_
  refine w_iload_n dX40_found_42 rfl rfl ?_
  refine w_sipush dX40_found_43 (v := 256) (by decide) ?_
  refine w_icmp_ne 59 dX40_found_46 (by decide) (fun c1 => ?_) (fun c1 => ?_)
  · replace hf := (if_pos (show ¬ l2 = (256 : Int32) from c1)).symm.trans hf
    refine w_iload_n dX40_found_59 rfl rfl ?_
    exact (pX40_found_b60 hd hf).to ⟨rfl, rfl, trivial⟩
  · replace hf := (if_neg (show ¬ (¬ l2 = (256 : Int32)) from (fun z => z c1))).symm.trans hf
    refine w_aload_n dX40_found_49 rfl rfl ?_
    obtain ⟨a2, b3, hf⟩ := Option.bind_eq_some_iff.mp hf
    refine GX40_9 b3 dX40_found_50 rfl ?_
    refine x_cnI hf (e_stS (Yc := YX40_edgeOf) (av := [.ref a2]) (st := []) dX40_found_53 q4965 mX40_edgeOf) mX40_edgeOf.2.2.1 mX40_edgeOf.2.2.2.2.1 (Nat.le_of_ble_eq_true rfl) (Nat.le_of_ble_eq_true rfl) (fun q hq => pX40_edgeOf (by omega) hq) (fun q4 hf => ?_)
    refine w_goto 60 dX40_found_56 (by decide) ?_
    exact (pX40_found_b60 hd hf).to ⟨rfl, rfl, trivial⟩
def fX40_found (N : Nat) (this : Nat) (p0 : Int32) (p1 : Int32) (h : eH) : Option (Int32 × eH) :=
  if ¬ p0 = (256 : Int32) then
    (g_A 42 h this 0).bind fun a2 =>
    (fX40_tag N a2 p0 h).bind fun q4 =>
    if ¬ q4.1 = (1 : Int32) then
      fX40_found_b41 N this p1 (-1 : Int32) q4.2
    else
      (g_A 42 q4.2 this 0).bind fun a6 =>
      (fX40_rest N a6 p0 q4.2).bind fun q8 =>
      fX40_found_b41 N this p1 q8.1 q8.2
  else
    (g_A 42 h this 0).bind fun a9 =>
    (fX40_edgeProgram N a9 h).bind fun q11 =>
    fX40_found_b41 N this p1 q11.1 q11.2
theorem pX40_found {w : eW} {d : Nat} (hd : 6 ≤ d) {N : Nat} {this : Nat} {p0 : Int32} {p1 : Int32} {h : eH} {q} (hf : fX40_found N this p0 p1 h = some q) : wm w d YX40_found [.ref this, .int p0, .int p1] h (e_is (e_rn c_I q)) := by
  obtain ⟨d, rfl⟩ : ∃ e, d = e + 1 := ⟨d - 1, by omega⟩
  show wp w (d + 1) YX40_found 0 [some (.ref this), some (.int p0), some (.int p1), none, none] [] h _
  unfold fX40_found at hf
  refine w_iload_n dX40_found_0 rfl rfl ?_
  refine w_sipush dX40_found_1 (v := 256) (by decide) ?_
  refine w_icmp_ne 17 dX40_found_4 (by decide) (fun c1 => ?_) (fun c1 => ?_)
  · replace hf := (if_pos (show ¬ p0 = (256 : Int32) from c1)).symm.trans hf
    refine w_aload_n dX40_found_17 rfl rfl ?_
    obtain ⟨a2, b3, hf⟩ := Option.bind_eq_some_iff.mp hf
    refine GX40_9 b3 dX40_found_18 rfl ?_
    refine w_iload_n dX40_found_21 rfl rfl ?_
    refine x_cnI hf (e_stS (Yc := YX40_tag) (av := [.ref a2, .int p0]) (st := []) dX40_found_22 q4941 mX40_tag) mX40_tag.2.2.1 mX40_tag.2.2.2.2.1 (Nat.le_of_ble_eq_true rfl) (Nat.le_of_ble_eq_true rfl) (fun q hq => pX40_tag (by omega) hq) (fun q4 hf => ?_)
    refine w_iconst dX40_found_25 (v := 1) (by decide) ?_
    refine w_icmp_ne 40 dX40_found_26 (by decide) (fun c5 => ?_) (fun c5 => ?_)
    · replace hf := (if_pos (show ¬ q4.1 = (1 : Int32) from c5)).symm.trans hf
      refine w_iconst dX40_found_40 (v := -1) (by decide) ?_
      exact (pX40_found_b41 hd hf).to ⟨rfl, rfl, trivial⟩
    · replace hf := (if_neg (show ¬ (¬ q4.1 = (1 : Int32)) from (fun z => z c5))).symm.trans hf
      refine w_aload_n dX40_found_29 rfl rfl ?_
      obtain ⟨a6, b7, hf⟩ := Option.bind_eq_some_iff.mp hf
      refine GX40_9 b7 dX40_found_30 rfl ?_
      refine w_iload_n dX40_found_33 rfl rfl ?_
      refine x_cnI hf (e_stS (Yc := YX40_rest) (av := [.ref a6, .int p0]) (st := []) dX40_found_34 q4944 mX40_rest) mX40_rest.2.2.1 mX40_rest.2.2.2.2.1 (Nat.le_of_ble_eq_true rfl) (Nat.le_of_ble_eq_true rfl) (fun q hq => pX40_rest (by omega) hq) (fun q8 hf => ?_)
      refine w_goto 41 dX40_found_37 (by decide) ?_
      exact (pX40_found_b41 hd hf).to ⟨rfl, rfl, trivial⟩
  · replace hf := (if_neg (show ¬ (¬ p0 = (256 : Int32)) from (fun z => z c1))).symm.trans hf
    refine w_aload_n dX40_found_7 rfl rfl ?_
    obtain ⟨a9, b10, hf⟩ := Option.bind_eq_some_iff.mp hf
    refine GX40_9 b10 dX40_found_8 rfl ?_
    refine x_cnI hf (e_stS (Yc := YX40_edgeProgram) (av := [.ref a9]) (st := []) dX40_found_11 q5683 mX40_edgeProgram) mX40_edgeProgram.2.2.1 mX40_edgeProgram.2.2.2.2.1 (Nat.le_of_ble_eq_true rfl) (Nat.le_of_ble_eq_true rfl) (fun q hq => pX40_edgeProgram (by omega) hq) (fun q11 hf => ?_)
    refine w_goto 41 dX40_found_14 (by decide) ?_
    exact (pX40_found_b41 hd hf).to ⟨rfl, rfl, trivial⟩
abbrev cX40_scaled : ByteArray := prog_41_method_27_code
def yX40_scaled : MethodName := ⟨RX40, "scaled", "(III)I"⟩
def YX40_scaled : eY := (yX40_scaled, cX40_scaled, 11, (Option.some FieldType.int), [])
theorem mX40_scaled : e_mv YX40_scaled RX40 3 := ⟨q5397, qs299, q5398, by decide, by decide +kernel, (e_sig (by decide +kernel))⟩
theorem dX40_scaled_0 : decode cX40_scaled 0 = .ok (.iload_n 3, 1) := dc_29 (by decide +kernel)
theorem dX40_scaled_1 : decode cX40_scaled 1 = .ok (.i2l, 1) := dc_133 (by decide +kernel)
theorem dX40_scaled_2 : decode cX40_scaled 2 = .ok (.lstore 4, 2) := dc_55 (a := 4) (by decide +kernel)
theorem dX40_scaled_4 : decode cX40_scaled 4 = .ok (.iconst 0, 1) := dc_3 (by decide +kernel)
theorem dX40_scaled_5 : decode cX40_scaled 5 = .ok (.istore 6, 2) := dc_54 (a := 6) (by decide +kernel)
theorem dX40_scaled_7 : decode cX40_scaled 7 = .ok (.lload 4, 2) := dc_22 (a := 4) (by decide +kernel)
theorem dX40_scaled_9 : decode cX40_scaled 9 = .ok (.ldc2_w 86, 3) := dc_20 (a := 0) (b := 86) (n := 86) (by decide +kernel)
theorem dX40_scaled_12 : decode cX40_scaled 12 = .ok (.lcmp, 1) := dc_148 (by decide +kernel)
theorem dX40_scaled_13 : decode cX40_scaled 13 = .ok (.ifCond .lt 17, 3) := dc_155 (a := 0) (b := 17) (v := 17) (by decide +kernel)
theorem dX40_scaled_16 : decode cX40_scaled 16 = .ok (.lload 4, 2) := dc_22 (a := 4) (by decide +kernel)
theorem dX40_scaled_18 : decode cX40_scaled 18 = .ok (.ldc2_w 88, 3) := dc_20 (a := 0) (b := 88) (n := 88) (by decide +kernel)
theorem dX40_scaled_21 : decode cX40_scaled 21 = .ok (.ldiv, 1) := dc_109 (by decide +kernel)
theorem dX40_scaled_22 : decode cX40_scaled 22 = .ok (.lstore 4, 2) := dc_55 (a := 4) (by decide +kernel)
theorem dX40_scaled_24 : decode cX40_scaled 24 = .ok (.iinc 6 1, 3) := dc_132 (a := 6) (b := 1) (v := 1) (by decide +kernel)
theorem dX40_scaled_27 : decode cX40_scaled 27 = .ok (.goto (-20), 3) := dc_167 (a := 255) (b := 236) (v := -20) (by decide +kernel)
theorem dX40_scaled_30 : decode cX40_scaled 30 = .ok (.ldc2_w 90, 3) := dc_20 (a := 0) (b := 90) (n := 90) (by decide +kernel)
theorem dX40_scaled_33 : decode cX40_scaled 33 = .ok (.aload_n 0, 1) := dc_42 (by decide +kernel)
theorem dX40_scaled_34 : decode cX40_scaled 34 = .ok (.getfield 9, 3) := dc_180 (a := 0) (b := 9) (n := 9) (by decide +kernel)
theorem dX40_scaled_37 : decode cX40_scaled 37 = .ok (.iload_n 1, 1) := dc_27 (by decide +kernel)
theorem dX40_scaled_38 : decode cX40_scaled 38 = .ok (.iload_n 2, 1) := dc_28 (by decide +kernel)
theorem dX40_scaled_39 : decode cX40_scaled 39 = .ok (.iconst 1, 1) := dc_4 (by decide +kernel)
theorem dX40_scaled_40 : decode cX40_scaled 40 = .ok (.invokestatic 32, 3) := dc_184 (a := 0) (b := 32) (n := 32) (by decide +kernel)
theorem dX40_scaled_43 : decode cX40_scaled 43 = .ok (.i2l, 1) := dc_133 (by decide +kernel)
theorem dX40_scaled_44 : decode cX40_scaled 44 = .ok (.lmul, 1) := dc_105 (by decide +kernel)
theorem dX40_scaled_45 : decode cX40_scaled 45 = .ok (.ldc2_w 92, 3) := dc_20 (a := 0) (b := 92) (n := 92) (by decide +kernel)
theorem dX40_scaled_48 : decode cX40_scaled 48 = .ok (.aload_n 0, 1) := dc_42 (by decide +kernel)
theorem dX40_scaled_49 : decode cX40_scaled 49 = .ok (.getfield 9, 3) := dc_180 (a := 0) (b := 9) (n := 9) (by decide +kernel)
theorem dX40_scaled_52 : decode cX40_scaled 52 = .ok (.iload_n 1, 1) := dc_27 (by decide +kernel)
theorem dX40_scaled_53 : decode cX40_scaled 53 = .ok (.iload_n 2, 1) := dc_28 (by decide +kernel)
theorem dX40_scaled_54 : decode cX40_scaled 54 = .ok (.iconst 2, 1) := dc_5 (by decide +kernel)
theorem dX40_scaled_55 : decode cX40_scaled 55 = .ok (.invokestatic 32, 3) := dc_184 (a := 0) (b := 32) (n := 32) (by decide +kernel)
theorem dX40_scaled_58 : decode cX40_scaled 58 = .ok (.i2l, 1) := dc_133 (by decide +kernel)
theorem dX40_scaled_59 : decode cX40_scaled 59 = .ok (.lmul, 1) := dc_105 (by decide +kernel)
theorem dX40_scaled_60 : decode cX40_scaled 60 = .ok (.ladd, 1) := dc_97 (by decide +kernel)
theorem dX40_scaled_61 : decode cX40_scaled 61 = .ok (.aload_n 0, 1) := dc_42 (by decide +kernel)
theorem dX40_scaled_62 : decode cX40_scaled 62 = .ok (.getfield 9, 3) := dc_180 (a := 0) (b := 9) (n := 9) (by decide +kernel)
theorem dX40_scaled_65 : decode cX40_scaled 65 = .ok (.iload_n 1, 1) := dc_27 (by decide +kernel)
theorem dX40_scaled_66 : decode cX40_scaled 66 = .ok (.iload_n 2, 1) := dc_28 (by decide +kernel)
theorem dX40_scaled_67 : decode cX40_scaled 67 = .ok (.iconst 3, 1) := dc_6 (by decide +kernel)
theorem dX40_scaled_68 : decode cX40_scaled 68 = .ok (.invokestatic 32, 3) := dc_184 (a := 0) (b := 32) (n := 32) (by decide +kernel)
theorem dX40_scaled_71 : decode cX40_scaled 71 = .ok (.i2l, 1) := dc_133 (by decide +kernel)
theorem dX40_scaled_72 : decode cX40_scaled 72 = .ok (.ladd, 1) := dc_97 (by decide +kernel)
theorem dX40_scaled_73 : decode cX40_scaled 73 = .ok (.lstore 7, 2) := dc_55 (a := 7) (by decide +kernel)
theorem dX40_scaled_75 : decode cX40_scaled 75 = .ok (.lload 7, 2) := dc_22 (a := 7) (by decide +kernel)
theorem dX40_scaled_77 : decode cX40_scaled 77 = .ok (.lload 4, 2) := dc_22 (a := 4) (by decide +kernel)
theorem dX40_scaled_79 : decode cX40_scaled 79 = .ok (.lmul, 1) := dc_105 (by decide +kernel)
theorem dX40_scaled_80 : decode cX40_scaled 80 = .ok (.bipush 20, 2) := dc_16 (a := 20) (v := 20) (by decide +kernel)
theorem dX40_scaled_82 : decode cX40_scaled 82 = .ok (.iload 6, 2) := dc_21 (a := 6) (by decide +kernel)
theorem dX40_scaled_84 : decode cX40_scaled 84 = .ok (.isub, 1) := dc_100 (by decide +kernel)
theorem dX40_scaled_85 : decode cX40_scaled 85 = .ok (.lshr, 1) := dc_123 (by decide +kernel)
theorem dX40_scaled_86 : decode cX40_scaled 86 = .ok (.lstore 9, 2) := dc_55 (a := 9) (by decide +kernel)
theorem dX40_scaled_88 : decode cX40_scaled 88 = .ok (.aload_n 0, 1) := dc_42 (by decide +kernel)
theorem dX40_scaled_89 : decode cX40_scaled 89 = .ok (.getfield 9, 3) := dc_180 (a := 0) (b := 9) (n := 9) (by decide +kernel)
theorem dX40_scaled_92 : decode cX40_scaled 92 = .ok (.iload_n 1, 1) := dc_27 (by decide +kernel)
theorem dX40_scaled_93 : decode cX40_scaled 93 = .ok (.iload_n 2, 1) := dc_28 (by decide +kernel)
theorem dX40_scaled_94 : decode cX40_scaled 94 = .ok (.iconst 0, 1) := dc_3 (by decide +kernel)
theorem dX40_scaled_95 : decode cX40_scaled 95 = .ok (.invokestatic 32, 3) := dc_184 (a := 0) (b := 32) (n := 32) (by decide +kernel)
theorem dX40_scaled_98 : decode cX40_scaled 98 = .ok (.sipush 255, 3) := dc_17 (a := 0) (b := 255) (v := 255) (by decide +kernel)
theorem dX40_scaled_101 : decode cX40_scaled 101 = .ok (.if_icmp .ne 16, 3) := dc_160 (a := 0) (b := 16) (v := 16) (by decide +kernel)
theorem dX40_scaled_104 : decode cX40_scaled 104 = .ok (.lload 9, 2) := dc_22 (a := 9) (by decide +kernel)
theorem dX40_scaled_106 : decode cX40_scaled 106 = .ok (.lload 4, 2) := dc_22 (a := 4) (by decide +kernel)
theorem dX40_scaled_108 : decode cX40_scaled 108 = .ok (.iconst 4, 1) := dc_7 (by decide +kernel)
theorem dX40_scaled_109 : decode cX40_scaled 109 = .ok (.iload 6, 2) := dc_21 (a := 6) (by decide +kernel)
theorem dX40_scaled_111 : decode cX40_scaled 111 = .ok (.iadd, 1) := dc_96 (by decide +kernel)
theorem dX40_scaled_112 : decode cX40_scaled 112 = .ok (.lshl, 1) := dc_121 (by decide +kernel)
theorem dX40_scaled_113 : decode cX40_scaled 113 = .ok (.lsub, 1) := dc_101 (by decide +kernel)
theorem dX40_scaled_114 : decode cX40_scaled 114 = .ok (.goto 5, 3) := dc_167 (a := 0) (b := 5) (v := 5) (by decide +kernel)
theorem dX40_scaled_117 : decode cX40_scaled 117 = .ok (.lload 9, 2) := dc_22 (a := 9) (by decide +kernel)
theorem dX40_scaled_119 : decode cX40_scaled 119 = .ok (.l2i, 1) := dc_136 (by decide +kernel)
theorem dX40_scaled_120 : decode cX40_scaled 120 = .ok (.ireturn, 1) := dc_172 (by decide +kernel)
def fX40_scaled_b119 (N : Nat) (s0 : Int64) (h : eH) : Option (Int32 × eH) :=
  some ((s0).toInt32, h)
theorem pX40_scaled_b119 {w : eW} {d : Nat} (hd : 4 ≤ d + 1) {N : Nat} {s0 : Int64} {h : eH} {q} (hf : fX40_scaled_b119 N s0 h = some q) : wp w (d + 1) YX40_scaled 119 [none, none, none, none, none, none, none, none, none, none, none] [.long s0] h (e_is (e_rn c_I q)) := by
  unfold fX40_scaled_b119 at hf
  refine w_l2i dX40_scaled_119 ?_
  cases hf
  exact w_iret dX40_scaled_120 rfl rfl rfl
def fX40_scaled_b7 (N : Nat) : Nat → Nat → Int32 → Int32 → Int64 → Int32 → eH → Option (Int32 × eH)
  | 0, _, _, _, _, _, _ => none
  | n + 1, l0, l1, l2, l4, l6, h =>
    if (lg_cmp l4 (8388608 : Int64)) < 0 then
      (g_A 42 h l0 0).bind fun a2 =>
      (fX40_at N a2 l1 l2 (1 : Int32) h).bind fun q4 =>
      (g_A 42 q4.2 l0 0).bind fun a5 =>
      (fX40_at N a5 l1 l2 (2 : Int32) q4.2).bind fun q7 =>
      (g_A 42 q7.2 l0 0).bind fun a8 =>
      (fX40_at N a8 l1 l2 (3 : Int32) q7.2).bind fun q10 =>
      (g_A 42 q10.2 l0 0).bind fun a11 =>
      (fX40_at N a11 l1 l2 (0 : Int32) q10.2).bind fun q13 =>
      if ¬ q13.1 = (255 : Int32) then
        fX40_scaled_b119 N ((((((65536 : Int64) * (q4.1).toInt64) + ((256 : Int64) * (q7.1).toInt64)) + (q10.1).toInt64) * l4) >>> ((((20 : Int32) - l6)).toInt64 &&& 63)) q13.2
      else
        fX40_scaled_b119 N (((((((65536 : Int64) * (q4.1).toInt64) + ((256 : Int64) * (q7.1).toInt64)) + (q10.1).toInt64) * l4) >>> ((((20 : Int32) - l6)).toInt64 &&& 63)) - (l4 <<< ((((4 : Int32) + l6)).toInt64 &&& 63))) q13.2
    else
      fX40_scaled_b7 N n l0 l1 l2 (l4 / (2 : Int64)) (l6 + (1 : Int32)) h
theorem pX40_scaled_b7 {w : eW} {d : Nat} (hd : 4 ≤ d + 1) {N : Nat} : ∀ (n : Nat) l0 l1 l2 l4 l6 h q, fX40_scaled_b7 N n l0 l1 l2 l4 l6 h = some q → wp w (d + 1) YX40_scaled 7 [some (.ref l0), some (.int l1), some (.int l2), none, some (.long l4), none, some (.int l6), none, none, none, none] [] h (e_is (e_rn c_I q)) := by
  intro n
  induction n with
  | zero => intro l0 l1 l2 l4 l6 h q hf; simp [fX40_scaled_b7] at hf
  | succ n ih =>
    intro l0 l1 l2 l4 l6 h q hf
    rw [fX40_scaled_b7] at hf
    refine w_lload dX40_scaled_7 rfl ?_
    refine w_ldc2 dX40_scaled_9 q5399 ?_
    refine w_lcmp dX40_scaled_12 ?_
    refine w_if_lt 30 dX40_scaled_13 (by decide) (fun c1 => ?_) (fun c1 => ?_)
    · replace hf := (if_pos (show (lg_cmp l4 (8388608 : Int64)) < 0 from c1)).symm.trans hf
      refine w_ldc2 dX40_scaled_30 q5401 ?_
      refine w_aload_n dX40_scaled_33 rfl rfl ?_
      obtain ⟨a2, b3, hf⟩ := Option.bind_eq_some_iff.mp hf
      refine GX40_9 b3 dX40_scaled_34 rfl ?_
      refine w_iload_n dX40_scaled_37 rfl rfl ?_
      refine w_iload_n dX40_scaled_38 rfl rfl ?_
      refine w_iconst dX40_scaled_39 (v := 1) (by decide) ?_
      refine x_cnI hf (e_stS (Yc := YX40_at) (av := [.ref a2, .int l1, .int l2, .int (1 : Int32)]) (st := [.long (65536 : Int64)]) dX40_scaled_40 q4928 mX40_at) mX40_at.2.2.1 mX40_at.2.2.2.2.1 (Nat.le_of_ble_eq_true rfl) (Nat.le_of_ble_eq_true rfl) (fun q hq => pX40_at (by omega) hq) (fun q4 hf => ?_)
      refine w_i2l dX40_scaled_43 ?_
      refine w_lmul dX40_scaled_44 ?_
      refine w_ldc2 dX40_scaled_45 q5402 ?_
      refine w_aload_n dX40_scaled_48 rfl rfl ?_
      obtain ⟨a5, b6, hf⟩ := Option.bind_eq_some_iff.mp hf
      refine GX40_9 b6 dX40_scaled_49 rfl ?_
      refine w_iload_n dX40_scaled_52 rfl rfl ?_
      refine w_iload_n dX40_scaled_53 rfl rfl ?_
      refine w_iconst dX40_scaled_54 (v := 2) (by decide) ?_
      refine x_cnI hf (e_stS (Yc := YX40_at) (av := [.ref a5, .int l1, .int l2, .int (2 : Int32)]) (st := [.long (256 : Int64), .long ((65536 : Int64) * (q4.1).toInt64)]) dX40_scaled_55 q4928 mX40_at) mX40_at.2.2.1 mX40_at.2.2.2.2.1 (Nat.le_of_ble_eq_true rfl) (Nat.le_of_ble_eq_true rfl) (fun q hq => pX40_at (by omega) hq) (fun q7 hf => ?_)
      refine w_i2l dX40_scaled_58 ?_
      refine w_lmul dX40_scaled_59 ?_
      refine w_ladd dX40_scaled_60 ?_
      refine w_aload_n dX40_scaled_61 rfl rfl ?_
      obtain ⟨a8, b9, hf⟩ := Option.bind_eq_some_iff.mp hf
      refine GX40_9 b9 dX40_scaled_62 rfl ?_
      refine w_iload_n dX40_scaled_65 rfl rfl ?_
      refine w_iload_n dX40_scaled_66 rfl rfl ?_
      refine w_iconst dX40_scaled_67 (v := 3) (by decide) ?_
      refine x_cnI hf (e_stS (Yc := YX40_at) (av := [.ref a8, .int l1, .int l2, .int (3 : Int32)]) (st := [.long (((65536 : Int64) * (q4.1).toInt64) + ((256 : Int64) * (q7.1).toInt64))]) dX40_scaled_68 q4928 mX40_at) mX40_at.2.2.1 mX40_at.2.2.2.2.1 (Nat.le_of_ble_eq_true rfl) (Nat.le_of_ble_eq_true rfl) (fun q hq => pX40_at (by omega) hq) (fun q10 hf => ?_)
      refine w_i2l dX40_scaled_71 ?_
      refine w_ladd dX40_scaled_72 ?_
      refine w_lstore dX40_scaled_73 (by decide) (ls' := [some (.ref l0), some (.int l1), some (.int l2), none, some (.long l4), none, some (.int l6), some (.long ((((65536 : Int64) * (q4.1).toInt64) + ((256 : Int64) * (q7.1).toInt64)) + (q10.1).toInt64)), none, none, none]) rfl ?_
      refine w_lload dX40_scaled_75 rfl ?_
      refine w_lload dX40_scaled_77 rfl ?_
      refine w_lmul dX40_scaled_79 ?_
      refine w_bipush dX40_scaled_80 (v := 20) (by decide) ?_
      refine w_iload dX40_scaled_82 rfl ?_
      refine w_isub dX40_scaled_84 ?_
      refine w_lshr dX40_scaled_85 ?_
      refine w_lstore dX40_scaled_86 (by decide) (ls' := [some (.ref l0), some (.int l1), some (.int l2), none, some (.long l4), none, some (.int l6), some (.long ((((65536 : Int64) * (q4.1).toInt64) + ((256 : Int64) * (q7.1).toInt64)) + (q10.1).toInt64)), none, some (.long ((((((65536 : Int64) * (q4.1).toInt64) + ((256 : Int64) * (q7.1).toInt64)) + (q10.1).toInt64) * l4) >>> ((((20 : Int32) - l6)).toInt64 &&& 63))), none]) rfl ?_
      refine w_aload_n dX40_scaled_88 rfl rfl ?_
      obtain ⟨a11, b12, hf⟩ := Option.bind_eq_some_iff.mp hf
      refine GX40_9 b12 dX40_scaled_89 rfl ?_
      refine w_iload_n dX40_scaled_92 rfl rfl ?_
      refine w_iload_n dX40_scaled_93 rfl rfl ?_
      refine w_iconst dX40_scaled_94 (v := 0) (by decide) ?_
      refine x_cnI hf (e_stS (Yc := YX40_at) (av := [.ref a11, .int l1, .int l2, .int (0 : Int32)]) (st := []) dX40_scaled_95 q4928 mX40_at) mX40_at.2.2.1 mX40_at.2.2.2.2.1 (Nat.le_of_ble_eq_true rfl) (Nat.le_of_ble_eq_true rfl) (fun q hq => pX40_at (by omega) hq) (fun q13 hf => ?_)
      refine w_sipush dX40_scaled_98 (v := 255) (by decide) ?_
      refine w_icmp_ne 117 dX40_scaled_101 (by decide) (fun c14 => ?_) (fun c14 => ?_)
      · replace hf := (if_pos (show ¬ q13.1 = (255 : Int32) from c14)).symm.trans hf
        refine w_lload dX40_scaled_117 rfl ?_
        exact (pX40_scaled_b119 hd hf).to trivial
      · replace hf := (if_neg (show ¬ (¬ q13.1 = (255 : Int32)) from (fun z => z c14))).symm.trans hf
        refine w_lload dX40_scaled_104 rfl ?_
        refine w_lload dX40_scaled_106 rfl ?_
        refine w_iconst dX40_scaled_108 (v := 4) (by decide) ?_
        refine w_iload dX40_scaled_109 rfl ?_
        refine w_iadd dX40_scaled_111 ?_
        refine w_lshl dX40_scaled_112 ?_
        refine w_lsub dX40_scaled_113 ?_
        refine w_goto 119 dX40_scaled_114 (by decide) ?_
        exact (pX40_scaled_b119 hd hf).to trivial
    · replace hf := (if_neg (show ¬ ((lg_cmp l4 (8388608 : Int64)) < 0) from c1)).symm.trans hf
      refine w_lload dX40_scaled_16 rfl ?_
      refine w_ldc2 dX40_scaled_18 q5400 ?_
      refine w_ldiv dX40_scaled_21 (by decide) ?_
      refine w_lstore dX40_scaled_22 (by decide) (ls' := [some (.ref l0), some (.int l1), some (.int l2), none, some (.long (l4 / (2 : Int64))), none, some (.int l6), none, none, none, none]) rfl ?_
      refine w_iinc dX40_scaled_24 (v := (l6 + (1 : Int32))) rfl rfl (by decide) (ls' := [some (.ref l0), some (.int l1), some (.int l2), none, some (.long (l4 / (2 : Int64))), none, some (.int (l6 + (1 : Int32))), none, none, none, none]) rfl ?_
      refine w_goto 7 dX40_scaled_27 (by decide) ?_
      exact (ih _ _ _ _ _ _ _ hf).to ⟨rfl, rfl, rfl, rfl, rfl, trivial⟩
def fX40_scaled (N : Nat) (this : Nat) (p0 : Int32) (p1 : Int32) (p2 : Int32) (h : eH) : Option (Int32 × eH) :=
  fX40_scaled_b7 N N this p0 p1 (p2).toInt64 (0 : Int32) h
theorem pX40_scaled {w : eW} {d : Nat} (hd : 4 ≤ d) {N : Nat} {this : Nat} {p0 : Int32} {p1 : Int32} {p2 : Int32} {h : eH} {q} (hf : fX40_scaled N this p0 p1 p2 h = some q) : wm w d YX40_scaled [.ref this, .int p0, .int p1, .int p2] h (e_is (e_rn c_I q)) := by
  obtain ⟨d, rfl⟩ : ∃ e, d = e + 1 := ⟨d - 1, by omega⟩
  show wp w (d + 1) YX40_scaled 0 [some (.ref this), some (.int p0), some (.int p1), some (.int p2), none, none, none, none, none, none, none] [] h _
  unfold fX40_scaled at hf
  refine w_iload_n dX40_scaled_0 rfl rfl ?_
  refine w_i2l dX40_scaled_1 ?_
  refine w_lstore dX40_scaled_2 (by decide) (ls' := [some (.ref this), some (.int p0), some (.int p1), some (.int p2), some (.long (p2).toInt64), none, none, none, none, none, none]) rfl ?_
  refine w_iconst dX40_scaled_4 (v := 0) (by decide) ?_
  refine w_istore dX40_scaled_5 (by decide) (ls' := [some (.ref this), some (.int p0), some (.int p1), some (.int p2), some (.long (p2).toInt64), none, some (.int (0 : Int32)), none, none, none, none]) rfl ?_
  exact (pX40_scaled_b7 hd N _ _ _ _ _ _ _ hf).to ⟨rfl, rfl, rfl, rfl, rfl, trivial⟩
