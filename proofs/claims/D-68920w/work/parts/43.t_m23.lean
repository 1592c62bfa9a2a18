set_option maxRecDepth 100000
set_option maxHeartbeats 4000000
theorem q4134 : (Jvm.Cond.fieldLink "TypeHouseModel$Hyphens" (74 : Nat) "TypeHouseModel$Hyphens" "typed" "I") ∈ lw_all := lw_g (lw_at lw_m16 109 rfl) rfl
theorem q4149 : (Jvm.Cond.fieldLink "TypeHouseModel$Hyphens" (71 : Nat) "TypeHouseModel$Hyphens" "at" "I") ∈ lw_all := lw_g (lw_at lw_m16 124 rfl) rfl
theorem q4150 : (Jvm.Cond.fieldLink "TypeHouseModel$Hyphens" (77 : Nat) "TypeHouseModel$Hyphens" "size" "I") ∈ lw_all := lw_g (lw_at lw_m16 125 rfl) rfl
theorem q4151 : (Jvm.Cond.fieldLink "TypeHouseModel$Hyphens" (84 : Nat) "TypeHouseModel$Hyphens" "begin" "Z") ∈ lw_all := lw_g (lw_at lw_m16 126 rfl) rfl
theorem q4152 : (Jvm.Cond.fieldLink "TypeHouseModel$Hyphens" (88 : Nat) "TypeHouseModel$Hyphens" "end" "Z") ∈ lw_all := lw_g (lw_at lw_m16 127 rfl) rfl
theorem q4911 : (Jvm.Cond.static ({ cls := "TypeHouseModel$Metrics", name := "fault", desc := "([BI)I" } : Jvm.MethodName)) ∈ lw_all := lw_g (lw_at lw_m19 166 rfl) rfl
theorem q4912 : (Jvm.Cond.code ({ cls := "TypeHouseModel$Metrics", name := "fault", desc := "([BI)I" } : Jvm.MethodName) prog_41_method_23_code (4 : Nat) (Option.some Jvm.ClassFile.FieldType.int)) ∈ lw_all := lw_g (lw_at lw_m19 167 rfl) rfl
theorem q4913 : (Jvm.Cond.methodLink "TypeHouseModel$Metrics" (63 : Nat) ({ cls := "TypeHouseModel$Metrics", name := "areNumbersSmall", desc := "([BI)Z" } : Jvm.MethodName)) ∈ lw_all := lw_g (lw_at lw_m19 168 rfl) rfl
theorem q4914 : (Jvm.Cond.static ({ cls := "TypeHouseModel$Metrics", name := "areNumbersSmall", desc := "([BI)Z" } : Jvm.MethodName)) ∈ lw_all := lw_g (lw_at lw_m19 169 rfl) rfl
theorem q4915 : (Jvm.Cond.code ({ cls := "TypeHouseModel$Metrics", name := "areNumbersSmall", desc := "([BI)Z" } : Jvm.MethodName) prog_41_method_22_code (4 : Nat) (Option.some Jvm.ClassFile.FieldType.boolean)) ∈ lw_all := lw_g (lw_at lw_m19 170 rfl) rfl
theorem q4931 : (Jvm.Cond.constant "TypeHouseModel$Metrics" (69 : Nat) (1048576 : Int32)) ∈ lw_all := lw_g (lw_at lw_m19 186 rfl) rfl
theorem q4932 : (Jvm.Cond.methodLink "TypeHouseModel$Metrics" (70 : Nat) ({ cls := "TypeHouseModel$Metrics", name := "areSizesRight", desc := "([B)Z" } : Jvm.MethodName)) ∈ lw_all := lw_g (lw_at lw_m19 187 rfl) rfl
theorem q4933 : (Jvm.Cond.static ({ cls := "TypeHouseModel$Metrics", name := "areSizesRight", desc := "([B)Z" } : Jvm.MethodName)) ∈ lw_all := lw_g (lw_at lw_m19 188 rfl) rfl
theorem q4934 : (Jvm.Cond.code ({ cls := "TypeHouseModel$Metrics", name := "areSizesRight", desc := "([B)Z" } : Jvm.MethodName) prog_41_method_13_code (3 : Nat) (Option.some Jvm.ClassFile.FieldType.boolean)) ∈ lw_all := lw_g (lw_at lw_m19 189 rfl) rfl
theorem q4935 : (Jvm.Cond.methodLink "TypeHouseModel$Metrics" (74 : Nat) ({ cls := "TypeHouseModel$Metrics", name := "areTagsRight", desc := "([B)Z" } : Jvm.MethodName)) ∈ lw_all := lw_g (lw_at lw_m19 190 rfl) rfl
theorem q4936 : (Jvm.Cond.static ({ cls := "TypeHouseModel$Metrics", name := "areTagsRight", desc := "([B)Z" } : Jvm.MethodName)) ∈ lw_all := lw_g (lw_at lw_m19 191 rfl) rfl
theorem q4937 : (Jvm.Cond.code ({ cls := "TypeHouseModel$Metrics", name := "areTagsRight", desc := "([B)Z" } : Jvm.MethodName) prog_41_method_15_code (4 : Nat) (Option.some Jvm.ClassFile.FieldType.boolean)) ∈ lw_all := lw_g (lw_at lw_m19 192 rfl) rfl
theorem q4947 : (Jvm.Cond.methodLink "TypeHouseModel$Metrics" (49 : Nat) ({ cls := "TypeHouseModel$Metrics", name := "isLargerRight", desc := "([BI)Z" } : Jvm.MethodName)) ∈ lw_all := lw_g (lw_at lw_m19 202 rfl) rfl
theorem q4948 : (Jvm.Cond.static ({ cls := "TypeHouseModel$Metrics", name := "isLargerRight", desc := "([BI)Z" } : Jvm.MethodName)) ∈ lw_all := lw_g (lw_at lw_m19 203 rfl) rfl
theorem q4949 : (Jvm.Cond.code ({ cls := "TypeHouseModel$Metrics", name := "isLargerRight", desc := "([BI)Z" } : Jvm.MethodName) prog_41_method_14_code (4 : Nat) (Option.some Jvm.ClassFile.FieldType.boolean)) ∈ lw_all := lw_g (lw_at lw_m19 204 rfl) rfl
theorem q4950 : (Jvm.Cond.methodLink "TypeHouseModel$Metrics" (77 : Nat) ({ cls := "TypeHouseModel$Metrics", name := "areTablesRight", desc := "([B)Z" } : Jvm.MethodName)) ∈ lw_all := lw_g (lw_at lw_m19 205 rfl) rfl
theorem q4951 : (Jvm.Cond.static ({ cls := "TypeHouseModel$Metrics", name := "areTablesRight", desc := "([B)Z" } : Jvm.MethodName)) ∈ lw_all := lw_g (lw_at lw_m19 206 rfl) rfl
theorem q4952 : (Jvm.Cond.code ({ cls := "TypeHouseModel$Metrics", name := "areTablesRight", desc := "([B)Z" } : Jvm.MethodName) prog_41_method_17_code (4 : Nat) (Option.some Jvm.ClassFile.FieldType.boolean)) ∈ lw_all := lw_g (lw_at lw_m19 207 rfl) rfl
theorem q4953 : (Jvm.Cond.methodLink "TypeHouseModel$Metrics" (52 : Nat) ({ cls := "TypeHouseModel$Metrics", name := "areFractions", desc := "([BII)Z" } : Jvm.MethodName)) ∈ lw_all := lw_g (lw_at lw_m19 208 rfl) rfl
theorem q4954 : (Jvm.Cond.static ({ cls := "TypeHouseModel$Metrics", name := "areFractions", desc := "([BII)Z" } : Jvm.MethodName)) ∈ lw_all := lw_g (lw_at lw_m19 209 rfl) rfl
theorem q4955 : (Jvm.Cond.code ({ cls := "TypeHouseModel$Metrics", name := "areFractions", desc := "([BII)Z" } : Jvm.MethodName) prog_41_method_16_code (5 : Nat) (Option.some Jvm.ClassFile.FieldType.boolean)) ∈ lw_all := lw_g (lw_at lw_m19 210 rfl) rfl
theorem q4956 : (Jvm.Cond.methodLink "TypeHouseModel$Metrics" (80 : Nat) ({ cls := "TypeHouseModel$Metrics", name := "isProgramRight", desc := "([B)Z" } : Jvm.MethodName)) ∈ lw_all := lw_g (lw_at lw_m19 211 rfl) rfl
theorem q4957 : (Jvm.Cond.static ({ cls := "TypeHouseModel$Metrics", name := "isProgramRight", desc := "([B)Z" } : Jvm.MethodName)) ∈ lw_all := lw_g (lw_at lw_m19 212 rfl) rfl
theorem q4958 : (Jvm.Cond.code ({ cls := "TypeHouseModel$Metrics", name := "isProgramRight", desc := "([B)Z" } : Jvm.MethodName) prog_41_method_19_code (3 : Nat) (Option.some Jvm.ClassFile.FieldType.boolean)) ∈ lw_all := lw_g (lw_at lw_m19 213 rfl) rfl
theorem q4959 : (Jvm.Cond.methodLink "TypeHouseModel$Metrics" (60 : Nat) ({ cls := "TypeHouseModel$Metrics", name := "isWordRight", desc := "([BI)Z" } : Jvm.MethodName)) ∈ lw_all := lw_g (lw_at lw_m19 214 rfl) rfl
theorem q4960 : (Jvm.Cond.static ({ cls := "TypeHouseModel$Metrics", name := "isWordRight", desc := "([BI)Z" } : Jvm.MethodName)) ∈ lw_all := lw_g (lw_at lw_m19 215 rfl) rfl
theorem q4961 : (Jvm.Cond.code ({ cls := "TypeHouseModel$Metrics", name := "isWordRight", desc := "([BI)Z" } : Jvm.MethodName) prog_41_method_18_code (7 : Nat) (Option.some Jvm.ClassFile.FieldType.boolean)) ∈ lw_all := lw_g (lw_at lw_m19 216 rfl) rfl
theorem q4968 : (Jvm.Cond.methodLink "TypeHouseModel$Metrics" (83 : Nat) ({ cls := "TypeHouseModel$Metrics", name := "areRecipesRight", desc := "([B)Z" } : Jvm.MethodName)) ∈ lw_all := lw_g (lw_at lw_m19 223 rfl) rfl
theorem q4969 : (Jvm.Cond.static ({ cls := "TypeHouseModel$Metrics", name := "areRecipesRight", desc := "([B)Z" } : Jvm.MethodName)) ∈ lw_all := lw_g (lw_at lw_m19 224 rfl) rfl
theorem q4970 : (Jvm.Cond.code ({ cls := "TypeHouseModel$Metrics", name := "areRecipesRight", desc := "([B)Z" } : Jvm.MethodName) prog_41_method_20_code (4 : Nat) (Option.some Jvm.ClassFile.FieldType.boolean)) ∈ lw_all := lw_g (lw_at lw_m19 225 rfl) rfl
theorem q4973 : (Jvm.Cond.instanceMethod ({ cls := "TypeHouseModel$Metrics", name := "<init>", desc := "()V" } : Jvm.MethodName)) ∈ lw_all := lw_g (lw_at lw_m19 228 rfl) rfl
theorem q4974 : (Jvm.Cond.code ({ cls := "TypeHouseModel$Metrics", name := "<init>", desc := "()V" } : Jvm.MethodName) prog_41_method_1_code (1 : Nat) (Option.none : Option Jvm.ClassFile.FieldType)) ∈ lw_all := lw_g (lw_at lw_m19 229 rfl) rfl
theorem q4975 : (Jvm.Cond.methodLink "TypeHouseModel$Metrics" (3 : Nat) ({ cls := "java/lang/Object", name := "<init>", desc := "()V" } : Jvm.MethodName)) ∈ lw_all := lw_g (lw_at lw_m19 230 rfl) rfl
theorem q4993 : (Jvm.Cond.instanceMethod ({ cls := "TypeHouseModel$Metrics", name := "take", desc := "([BI)V" } : Jvm.MethodName)) ∈ lw_all := lw_g (lw_at lw_m20 8 rfl) rfl
theorem q4994 : (Jvm.Cond.selects "TypeHouseModel$Metrics" ({ cls := "TypeHouseModel$Metrics", name := "take", desc := "([BI)V" } : Jvm.MethodName) ({ cls := "TypeHouseModel$Metrics", name := "take", desc := "([BI)V" } : Jvm.MethodName)) ∈ lw_all := lw_g (lw_at lw_m20 9 rfl) rfl
theorem q4995 : (Jvm.Cond.code ({ cls := "TypeHouseModel$Metrics", name := "take", desc := "([BI)V" } : Jvm.MethodName) prog_41_method_2_code (4 : Nat) (Option.none : Option Jvm.ClassFile.FieldType)) ∈ lw_all := lw_g (lw_at lw_m20 10 rfl) rfl
theorem q4997 : (Jvm.Cond.instanceMethod ({ cls := "TypeHouseModel$Hyphens", name := "patterns", desc := "()I" } : Jvm.MethodName)) ∈ lw_all := lw_g (lw_at lw_m20 12 rfl) rfl
theorem q4998 : (Jvm.Cond.selects "TypeHouseModel$Hyphens" ({ cls := "TypeHouseModel$Hyphens", name := "patterns", desc := "()I" } : Jvm.MethodName) ({ cls := "TypeHouseModel$Hyphens", name := "patterns", desc := "()I" } : Jvm.MethodName)) ∈ lw_all := lw_g (lw_at lw_m20 13 rfl) rfl
theorem q4999 : (Jvm.Cond.code ({ cls := "TypeHouseModel$Hyphens", name := "patterns", desc := "()I" } : Jvm.MethodName) prog_40_method_12_code (3 : Nat) (Option.some Jvm.ClassFile.FieldType.int)) ∈ lw_all := lw_g (lw_at lw_m20 14 rfl) rfl
theorem q5000 : (Jvm.Cond.methodLink "TypeHouseModel$Hyphens" (122 : Nat) ({ cls := "TypeHouseModel$Hyphens", name := "readPatterns", desc := "()I" } : Jvm.MethodName)) ∈ lw_all := lw_g (lw_at lw_m20 15 rfl) rfl
theorem q5002 : (Jvm.Cond.instanceMethod ({ cls := "TypeHouseModel$Hyphens", name := "readPatterns", desc := "()I" } : Jvm.MethodName)) ∈ lw_all := lw_g (lw_at lw_m20 17 rfl) rfl
theorem q5003 : (Jvm.Cond.code ({ cls := "TypeHouseModel$Hyphens", name := "readPatterns", desc := "()I" } : Jvm.MethodName) prog_40_method_11_code (3 : Nat) (Option.some Jvm.ClassFile.FieldType.int)) ∈ lw_all := lw_g (lw_at lw_m20 18 rfl) rfl
theorem q5004 : (Jvm.Cond.methodLink "TypeHouseModel$Hyphens" (106 : Nat) ({ cls := "TypeHouseModel$Hyphens", name := "spaces", desc := "()V" } : Jvm.MethodName)) ∈ lw_all := lw_g (lw_at lw_m20 19 rfl) rfl
theorem q5006 : (Jvm.Cond.instanceMethod ({ cls := "TypeHouseModel$Hyphens", name := "spaces", desc := "()V" } : Jvm.MethodName)) ∈ lw_all := lw_g (lw_at lw_m20 21 rfl) rfl
theorem q5007 : (Jvm.Cond.code ({ cls := "TypeHouseModel$Hyphens", name := "spaces", desc := "()V" } : Jvm.MethodName) prog_40_method_6_code (1 : Nat) (Option.none : Option Jvm.ClassFile.FieldType)) ∈ lw_all := lw_g (lw_at lw_m20 22 rfl) rfl
theorem q5008 : (Jvm.Cond.methodLink "TypeHouseModel$Hyphens" (109 : Nat) ({ cls := "TypeHouseModel$Hyphens", name := "readPattern", desc := "()Z" } : Jvm.MethodName)) ∈ lw_all := lw_g (lw_at lw_m20 23 rfl) rfl
theorem q5010 : (Jvm.Cond.instanceMethod ({ cls := "TypeHouseModel$Hyphens", name := "readPattern", desc := "()Z" } : Jvm.MethodName)) ∈ lw_all := lw_g (lw_at lw_m20 25 rfl) rfl
theorem q5011 : (Jvm.Cond.code ({ cls := "TypeHouseModel$Hyphens", name := "readPattern", desc := "()Z" } : Jvm.MethodName) prog_40_method_7_code (2 : Nat) (Option.some Jvm.ClassFile.FieldType.boolean)) ∈ lw_all := lw_g (lw_at lw_m20 26 rfl) rfl
theorem q5012 : (Jvm.Cond.methodLink "TypeHouseModel$Hyphens" (80 : Nat) ({ cls := "TypeHouseModel$Hyphens", name := "look", desc := "()I" } : Jvm.MethodName)) ∈ lw_all := lw_g (lw_at lw_m20 27 rfl) rfl
theorem q5014 : (Jvm.Cond.instanceMethod ({ cls := "TypeHouseModel$Hyphens", name := "look", desc := "()I" } : Jvm.MethodName)) ∈ lw_all := lw_g (lw_at lw_m20 29 rfl) rfl
theorem q5015 : (Jvm.Cond.code ({ cls := "TypeHouseModel$Hyphens", name := "look", desc := "()I" } : Jvm.MethodName) prog_40_method_3_code (1 : Nat) (Option.some Jvm.ClassFile.FieldType.int)) ∈ lw_all := lw_g (lw_at lw_m20 30 rfl) rfl
theorem q5016 : (Jvm.Cond.methodLink "TypeHouseModel$Hyphens" (91 : Nat) ({ cls := "TypeHouseModel$Hyphens", name := "isDigit", desc := "(I)Z" } : Jvm.MethodName)) ∈ lw_all := lw_g (lw_at lw_m20 31 rfl) rfl
theorem q5017 : (Jvm.Cond.static ({ cls := "TypeHouseModel$Hyphens", name := "isDigit", desc := "(I)Z" } : Jvm.MethodName)) ∈ lw_all := lw_g (lw_at lw_m20 32 rfl) rfl
theorem q5018 : (Jvm.Cond.code ({ cls := "TypeHouseModel$Hyphens", name := "isDigit", desc := "(I)Z" } : Jvm.MethodName) prog_40_method_2_code (1 : Nat) (Option.some Jvm.ClassFile.FieldType.boolean)) ∈ lw_all := lw_g (lw_at lw_m20 33 rfl) rfl
theorem q5019 : (Jvm.Cond.methodLink "TypeHouseModel$Hyphens" (95 : Nat) ({ cls := "TypeHouseModel$Hyphens", name := "isLetter", desc := "()Z" } : Jvm.MethodName)) ∈ lw_all := lw_g (lw_at lw_m20 34 rfl) rfl
theorem q5021 : (Jvm.Cond.instanceMethod ({ cls := "TypeHouseModel$Hyphens", name := "isLetter", desc := "()Z" } : Jvm.MethodName)) ∈ lw_all := lw_g (lw_at lw_m20 36 rfl) rfl
theorem q5022 : (Jvm.Cond.code ({ cls := "TypeHouseModel$Hyphens", name := "isLetter", desc := "()Z" } : Jvm.MethodName) prog_40_method_4_code (1 : Nat) (Option.some Jvm.ClassFile.FieldType.boolean)) ∈ lw_all := lw_g (lw_at lw_m20 37 rfl) rfl
theorem q5023 : (Jvm.Cond.methodLink "TypeHouseModel$Hyphens" (99 : Nat) ({ cls := "TypeHouseModel$Hyphens", name := "isOver", desc := "()Z" } : Jvm.MethodName)) ∈ lw_all := lw_g (lw_at lw_m20 38 rfl) rfl
theorem q5025 : (Jvm.Cond.instanceMethod ({ cls := "TypeHouseModel$Hyphens", name := "isOver", desc := "()Z" } : Jvm.MethodName)) ∈ lw_all := lw_g (lw_at lw_m20 40 rfl) rfl
theorem q5026 : (Jvm.Cond.code ({ cls := "TypeHouseModel$Hyphens", name := "isOver", desc := "()Z" } : Jvm.MethodName) prog_40_method_5_code (1 : Nat) (Option.some Jvm.ClassFile.FieldType.boolean)) ∈ lw_all := lw_g (lw_at lw_m20 41 rfl) rfl
theorem q5027 : (Jvm.Cond.methodLink "TypeHouseModel$Hyphens" (112 : Nat) ({ cls := "TypeHouseModel$Hyphens", name := "fault", desc := "(II)I" } : Jvm.MethodName)) ∈ lw_all := lw_g (lw_at lw_m20 42 rfl) rfl
theorem q5028 : (Jvm.Cond.static ({ cls := "TypeHouseModel$Hyphens", name := "fault", desc := "(II)I" } : Jvm.MethodName)) ∈ lw_all := lw_g (lw_at lw_m20 43 rfl) rfl
theorem q5029 : (Jvm.Cond.code ({ cls := "TypeHouseModel$Hyphens", name := "fault", desc := "(II)I" } : Jvm.MethodName) prog_40_method_10_code (2 : Nat) (Option.some Jvm.ClassFile.FieldType.int)) ∈ lw_all := lw_g (lw_at lw_m20 44 rfl) rfl
theorem q5030 : (Jvm.Cond.constant "TypeHouseModel$Hyphens" (105 : Nat) (-100000 : Int32)) ∈ lw_all := lw_g (lw_at lw_m20 45 rfl) rfl
theorem q5031 : (Jvm.Cond.methodLink "TypeHouseModel$Hyphens" (116 : Nat) ({ cls := "TypeHouseModel$Hyphens", name := "isThere", desc := "(I)Z" } : Jvm.MethodName)) ∈ lw_all := lw_g (lw_at lw_m20 46 rfl) rfl
theorem q5033 : (Jvm.Cond.instanceMethod ({ cls := "TypeHouseModel$Hyphens", name := "isThere", desc := "(I)Z" } : Jvm.MethodName)) ∈ lw_all := lw_g (lw_at lw_m20 48 rfl) rfl
theorem q5034 : (Jvm.Cond.code ({ cls := "TypeHouseModel$Hyphens", name := "isThere", desc := "(I)Z" } : Jvm.MethodName) prog_40_method_8_code (5 : Nat) (Option.some Jvm.ClassFile.FieldType.boolean)) ∈ lw_all := lw_g (lw_at lw_m20 49 rfl) rfl
theorem q5035 : (Jvm.Cond.methodLink "TypeHouseModel$Hyphens" (119 : Nat) ({ cls := "TypeHouseModel$Hyphens", name := "addPattern", desc := "()V" } : Jvm.MethodName)) ∈ lw_all := lw_g (lw_at lw_m20 50 rfl) rfl
theorem q5037 : (Jvm.Cond.instanceMethod ({ cls := "TypeHouseModel$Hyphens", name := "addPattern", desc := "()V" } : Jvm.MethodName)) ∈ lw_all := lw_g (lw_at lw_m20 52 rfl) rfl
theorem q5038 : (Jvm.Cond.code ({ cls := "TypeHouseModel$Hyphens", name := "addPattern", desc := "()V" } : Jvm.MethodName) prog_40_method_9_code (4 : Nat) (Option.none : Option Jvm.ClassFile.FieldType)) ∈ lw_all := lw_g (lw_at lw_m20 53 rfl) rfl
theorem q5049 : (Jvm.Cond.instanceMethod ({ cls := "TypeHouseModel$Hyphens", name := "readWord", desc := "()Z" } : Jvm.MethodName)) ∈ lw_all := lw_g (lw_at lw_m20 64 rfl) rfl
theorem q5050 : (Jvm.Cond.code ({ cls := "TypeHouseModel$Hyphens", name := "readWord", desc := "()Z" } : Jvm.MethodName) prog_40_method_13_code (2 : Nat) (Option.some Jvm.ClassFile.FieldType.boolean)) ∈ lw_all := lw_g (lw_at lw_m20 65 rfl) rfl
theorem q5439 : (Jvm.Cond.instanceMethod ({ cls := "TypeHouseModel", name := "done", desc := "(I)V" } : Jvm.MethodName)) ∈ lw_all := lw_g (lw_at lw_m21 214 rfl) rfl
theorem q5440 : (Jvm.Cond.code ({ cls := "TypeHouseModel", name := "done", desc := "(I)V" } : Jvm.MethodName) prog_37_method_173_code (4 : Nat) (Option.none : Option Jvm.ClassFile.FieldType)) ∈ lw_all := lw_g (lw_at lw_m21 215 rfl) rfl
theorem q5441 : (Jvm.Cond.methodLink "TypeHouseModel" (1169 : Nat) ({ cls := "TypeHouseModel", name := "doCharacter", desc := "(I)V" } : Jvm.MethodName)) ∈ lw_all := lw_g (lw_at lw_m21 216 rfl) rfl
theorem q5903 : (Jvm.Cond.methodLink "TypeHouseModel" (1172 : Nat) ({ cls := "TypeHouseModel", name := "doPrimitive", desc := "(I)V" } : Jvm.MethodName)) ∈ lw_all := lw_g (lw_at lw_m23 198 rfl) rfl
theorem q5905 : (Jvm.Cond.instanceMethod ({ cls := "TypeHouseModel", name := "doPrimitive", desc := "(I)V" } : Jvm.MethodName)) ∈ lw_all := lw_g (lw_at lw_m23 200 rfl) rfl
theorem q5906 : (Jvm.Cond.code ({ cls := "TypeHouseModel", name := "doPrimitive", desc := "(I)V" } : Jvm.MethodName) prog_37_method_176_code (2 : Nat) (Option.none : Option Jvm.ClassFile.FieldType)) ∈ lw_all := lw_g (lw_at lw_m23 201 rfl) rfl
theorem q5907 : (Jvm.Cond.methodLink "TypeHouseModel" (1175 : Nat) ({ cls := "TypeHouseModel", name := "prefixed", desc := "()V" } : Jvm.MethodName)) ∈ lw_all := lw_g (lw_at lw_m23 202 rfl) rfl
theorem q5909 : (Jvm.Cond.instanceMethod ({ cls := "TypeHouseModel", name := "prefixed", desc := "()V" } : Jvm.MethodName)) ∈ lw_all := lw_g (lw_at lw_m23 204 rfl) rfl
theorem q5910 : (Jvm.Cond.code ({ cls := "TypeHouseModel", name := "prefixed", desc := "()V" } : Jvm.MethodName) prog_37_method_185_code (2 : Nat) (Option.none : Option Jvm.ClassFile.FieldType)) ∈ lw_all := lw_g (lw_at lw_m23 205 rfl) rfl
theorem q5915 : (Jvm.Cond.methodLink "TypeHouseModel" (1224 : Nat) ({ cls := "TypeHouseModel", name := "isSettable", desc := "(I)Z" } : Jvm.MethodName)) ∈ lw_all := lw_g (lw_at lw_m23 210 rfl) rfl
theorem q5918 : (Jvm.Cond.methodLink "TypeHouseModel" (1181 : Nat) ({ cls := "TypeHouseModel", name := "set", desc := "(IZ)V" } : Jvm.MethodName)) ∈ lw_all := lw_g (lw_at lw_m23 213 rfl) rfl
theorem q5920 : (Jvm.Cond.instanceMethod ({ cls := "TypeHouseModel", name := "set", desc := "(IZ)V" } : Jvm.MethodName)) ∈ lw_all := lw_g (lw_at lw_m23 215 rfl) rfl
theorem q5921 : (Jvm.Cond.code ({ cls := "TypeHouseModel", name := "set", desc := "(IZ)V" } : Jvm.MethodName) prog_37_method_186_code (7 : Nat) (Option.none : Option Jvm.ClassFile.FieldType)) ∈ lw_all := lw_g (lw_at lw_m23 216 rfl) rfl
theorem q5922 : (Jvm.Cond.methodLink "TypeHouseModel" (1227 : Nat) ({ cls := "TypeHouseModel", name := "define", desc := "(ZZ)V" } : Jvm.MethodName)) ∈ lw_all := lw_g (lw_at lw_m23 217 rfl) rfl
theorem q5934 : (Jvm.Cond.methodLink "TypeHouseModel" (1230 : Nat) ({ cls := "TypeHouseModel", name := "let", desc := "(Z)V" } : Jvm.MethodName)) ∈ lw_all := lw_g (lw_at lw_m23 229 rfl) rfl
theorem q5942 : (Jvm.Cond.methodLink "TypeHouseModel" (1236 : Nat) ({ cls := "TypeHouseModel", name := "font", desc := "(Z)V" } : Jvm.MethodName)) ∈ lw_all := lw_g (lw_at lw_m23 237 rfl) rfl
theorem q5960 : (Jvm.Cond.methodLink "TypeHouseModel" (1239 : Nat) ({ cls := "TypeHouseModel", name := "reckon", desc := "(IZ)V" } : Jvm.MethodName)) ∈ lw_all := lw_g (lw_at lw_m24 15 rfl) rfl
theorem q5962 : (Jvm.Cond.instanceMethod ({ cls := "TypeHouseModel", name := "reckon", desc := "(IZ)V" } : Jvm.MethodName)) ∈ lw_all := lw_g (lw_at lw_m24 17 rfl) rfl
theorem q5963 : (Jvm.Cond.code ({ cls := "TypeHouseModel", name := "reckon", desc := "(IZ)V" } : Jvm.MethodName) prog_37_method_191_code (7 : Nat) (Option.none : Option Jvm.ClassFile.FieldType)) ∈ lw_all := lw_g (lw_at lw_m24 18 rfl) rfl
theorem q5965 : (Jvm.Cond.methodLink "TypeHouseModel" (1260 : Nat) ({ cls := "TypeHouseModel", name := "reckonGlue", desc := "(IIZ)V" } : Jvm.MethodName)) ∈ lw_all := lw_g (lw_at lw_m24 20 rfl) rfl
theorem q5997 : (Jvm.Cond.methodLink "TypeHouseModel" (1242 : Nat) ({ cls := "TypeHouseModel", name := "quantity", desc := "(IZ)V" } : Jvm.MethodName)) ∈ lw_all := lw_g (lw_at lw_m24 52 rfl) rfl
theorem q5999 : (Jvm.Cond.instanceMethod ({ cls := "TypeHouseModel", name := "quantity", desc := "(IZ)V" } : Jvm.MethodName)) ∈ lw_all := lw_g (lw_at lw_m24 54 rfl) rfl
theorem q6000 : (Jvm.Cond.code ({ cls := "TypeHouseModel", name := "quantity", desc := "(IZ)V" } : Jvm.MethodName) prog_37_method_188_code (4 : Nat) (Option.none : Option Jvm.ClassFile.FieldType)) ∈ lw_all := lw_g (lw_at lw_m24 55 rfl) rfl
theorem q6001 : (Jvm.Cond.methodLink "TypeHouseModel" (1178 : Nat) ({ cls := "TypeHouseModel", name := "doList", desc := "(I)V" } : Jvm.MethodName)) ∈ lw_all := lw_g (lw_at lw_m24 56 rfl) rfl
abbrev cX35_reckon : ByteArray := prog_37_method_191_code
def yX35_reckon : MethodName := ⟨RX35, "reckon", "(IZ)V"⟩
def YX35_reckon : eY := (yX35_reckon, cX35_reckon, 7, none, [])
theorem mX35_reckon : e_mv YX35_reckon RX35 2 := ⟨q5962, qs405, q5963, by decide, by decide +kernel, (e_sig (by decide +kernel))⟩
theorem dX35_reckon_0 : decode cX35_reckon 0 = .ok (.aload_n 0, 1) := dc_42 (by decide +kernel)
theorem dX35_reckon_1 : decode cX35_reckon 1 = .ok (.aload_n 0, 1) := dc_42 (by decide +kernel)
theorem dX35_reckon_2 : decode cX35_reckon 2 = .ok (.invokevirtual 607, 3) := dc_182 (a := 2) (b := 95) (n := 607) (by decide +kernel)
theorem dX35_reckon_5 : decode cX35_reckon 5 = .ok (.invokevirtual 621, 3) := dc_182 (a := 2) (b := 109) (n := 621) (by decide +kernel)
theorem dX35_reckon_8 : decode cX35_reckon 8 = .ok (.istore_n 3, 1) := dc_62 (by decide +kernel)
theorem dX35_reckon_9 : decode cX35_reckon 9 = .ok (.aload_n 0, 1) := dc_42 (by decide +kernel)
theorem dX35_reckon_10 : decode cX35_reckon 10 = .ok (.getfield 321, 3) := dc_180 (a := 1) (b := 65) (n := 321) (by decide +kernel)
theorem dX35_reckon_13 : decode cX35_reckon 13 = .ok (.ifCond .ne 30, 3) := dc_154 (a := 0) (b := 30) (v := 30) (by decide +kernel)
theorem dX35_reckon_16 : decode cX35_reckon 16 = .ok (.iload_n 3, 1) := dc_29 (by decide +kernel)
theorem dX35_reckon_17 : decode cX35_reckon 17 = .ok (.invokestatic 634, 3) := dc_184 (a := 2) (b := 122) (n := 634) (by decide +kernel)
theorem dX35_reckon_20 : decode cX35_reckon 20 = .ok (.ifCond .ne 23, 3) := dc_154 (a := 0) (b := 23) (v := 23) (by decide +kernel)
theorem dX35_reckon_23 : decode cX35_reckon 23 = .ok (.iload_n 3, 1) := dc_29 (by decide +kernel)
theorem dX35_reckon_24 : decode cX35_reckon 24 = .ok (.invokestatic 624, 3) := dc_184 (a := 2) (b := 112) (n := 624) (by decide +kernel)
theorem dX35_reckon_27 : decode cX35_reckon 27 = .ok (.ifCond .ne 16, 3) := dc_154 (a := 0) (b := 16) (v := 16) (by decide +kernel)
theorem dX35_reckon_30 : decode cX35_reckon 30 = .ok (.iload_n 3, 1) := dc_29 (by decide +kernel)
theorem dX35_reckon_31 : decode cX35_reckon 31 = .ok (.invokestatic 630, 3) := dc_184 (a := 2) (b := 118) (n := 630) (by decide +kernel)
theorem dX35_reckon_34 : decode cX35_reckon 34 = .ok (.ifCond .ne 9, 3) := dc_154 (a := 0) (b := 9) (v := 9) (by decide +kernel)
theorem dX35_reckon_37 : decode cX35_reckon 37 = .ok (.aload_n 0, 1) := dc_42 (by decide +kernel)
theorem dX35_reckon_38 : decode cX35_reckon 38 = .ok (.bipush 6, 2) := dc_16 (a := 6) (v := 6) (by decide +kernel)
theorem dX35_reckon_40 : decode cX35_reckon 40 = .ok (.invokevirtual 428, 3) := dc_182 (a := 1) (b := 172) (n := 428) (by decide +kernel)
theorem dX35_reckon_43 : decode cX35_reckon 43 = .ok (.aload_n 0, 1) := dc_42 (by decide +kernel)
theorem dX35_reckon_44 : decode cX35_reckon 44 = .ok (.getfield 321, 3) := dc_180 (a := 1) (b := 65) (n := 321) (by decide +kernel)
theorem dX35_reckon_47 : decode cX35_reckon 47 = .ok (.ifCond .le 4, 3) := dc_158 (a := 0) (b := 4) (v := 4) (by decide +kernel)
theorem dX35_reckon_50 : decode cX35_reckon 50 = .ok (.return_, 1) := dc_177 (by decide +kernel)
theorem dX35_reckon_51 : decode cX35_reckon 51 = .ok (.aload_n 0, 1) := dc_42 (by decide +kernel)
theorem dX35_reckon_52 : decode cX35_reckon 52 = .ok (.iload_n 3, 1) := dc_29 (by decide +kernel)
theorem dX35_reckon_53 : decode cX35_reckon 53 = .ok (.invokevirtual 640, 3) := dc_182 (a := 2) (b := 128) (n := 640) (by decide +kernel)
theorem dX35_reckon_56 : decode cX35_reckon 56 = .ok (.istore 4, 2) := dc_54 (a := 4) (by decide +kernel)
theorem dX35_reckon_58 : decode cX35_reckon 58 = .ok (.aload_n 0, 1) := dc_42 (by decide +kernel)
theorem dX35_reckon_59 : decode cX35_reckon 59 = .ok (.getfield 321, 3) := dc_180 (a := 1) (b := 65) (n := 321) (by decide +kernel)
theorem dX35_reckon_62 : decode cX35_reckon 62 = .ok (.ifCond .le 4, 3) := dc_158 (a := 0) (b := 4) (v := 4) (by decide +kernel)
theorem dX35_reckon_65 : decode cX35_reckon 65 = .ok (.return_, 1) := dc_177 (by decide +kernel)
theorem dX35_reckon_66 : decode cX35_reckon 66 = .ok (.aload_n 0, 1) := dc_42 (by decide +kernel)
theorem dX35_reckon_67 : decode cX35_reckon 67 = .ok (.ldc_w 1258, 3) := dc_19 (a := 4) (b := 234) (n := 1258) (by decide +kernel)
theorem dX35_reckon_70 : decode cX35_reckon 70 = .ok (.invokevirtual 707, 3) := dc_182 (a := 2) (b := 195) (n := 707) (by decide +kernel)
theorem dX35_reckon_73 : decode cX35_reckon 73 = .ok (.pop, 1) := dc_87 (by decide +kernel)
theorem dX35_reckon_74 : decode cX35_reckon 74 = .ok (.iload_n 3, 1) := dc_29 (by decide +kernel)
theorem dX35_reckon_75 : decode cX35_reckon 75 = .ok (.invokestatic 630, 3) := dc_184 (a := 2) (b := 118) (n := 630) (by decide +kernel)
theorem dX35_reckon_78 : decode cX35_reckon 78 = .ok (.ifCond .eq 12, 3) := dc_153 (a := 0) (b := 12) (v := 12) (by decide +kernel)
theorem dX35_reckon_81 : decode cX35_reckon 81 = .ok (.aload_n 0, 1) := dc_42 (by decide +kernel)
theorem dX35_reckon_82 : decode cX35_reckon 82 = .ok (.iload 4, 2) := dc_21 (a := 4) (by decide +kernel)
theorem dX35_reckon_84 : decode cX35_reckon 84 = .ok (.iload_n 1, 1) := dc_27 (by decide +kernel)
theorem dX35_reckon_85 : decode cX35_reckon 85 = .ok (.iload_n 2, 1) := dc_28 (by decide +kernel)
theorem dX35_reckon_86 : decode cX35_reckon 86 = .ok (.invokevirtual 1260, 3) := dc_182 (a := 4) (b := 236) (n := 1260) (by decide +kernel)
theorem dX35_reckon_89 : decode cX35_reckon 89 = .ok (.return_, 1) := dc_177 (by decide +kernel)
theorem dX35_reckon_90 : decode cX35_reckon 90 = .ok (.iload_n 1, 1) := dc_27 (by decide +kernel)
theorem dX35_reckon_91 : decode cX35_reckon 91 = .ok (.bipush 36, 2) := dc_16 (a := 36) (v := 36) (by decide +kernel)
theorem dX35_reckon_93 : decode cX35_reckon 93 = .ok (.if_icmp .ne 18, 3) := dc_160 (a := 0) (b := 18) (v := 18) (by decide +kernel)
theorem dX35_reckon_96 : decode cX35_reckon 96 = .ok (.iload_n 3, 1) := dc_29 (by decide +kernel)
theorem dX35_reckon_97 : decode cX35_reckon 97 = .ok (.invokestatic 624, 3) := dc_184 (a := 2) (b := 112) (n := 624) (by decide +kernel)
theorem dX35_reckon_100 : decode cX35_reckon 100 = .ok (.ifCond .eq 11, 3) := dc_153 (a := 0) (b := 11) (v := 11) (by decide +kernel)
theorem dX35_reckon_103 : decode cX35_reckon 103 = .ok (.aload_n 0, 1) := dc_42 (by decide +kernel)
theorem dX35_reckon_104 : decode cX35_reckon 104 = .ok (.invokevirtual 614, 3) := dc_182 (a := 2) (b := 102) (n := 614) (by decide +kernel)
theorem dX35_reckon_107 : decode cX35_reckon 107 = .ok (.i2l, 1) := dc_133 (by decide +kernel)
theorem dX35_reckon_108 : decode cX35_reckon 108 = .ok (.goto 8, 3) := dc_167 (a := 0) (b := 8) (v := 8) (by decide +kernel)
theorem dX35_reckon_111 : decode cX35_reckon 111 = .ok (.aload_n 0, 1) := dc_42 (by decide +kernel)
theorem dX35_reckon_112 : decode cX35_reckon 112 = .ok (.invokevirtual 518, 3) := dc_182 (a := 2) (b := 6) (n := 518) (by decide +kernel)
theorem dX35_reckon_115 : decode cX35_reckon 115 = .ok (.i2l, 1) := dc_133 (by decide +kernel)
theorem dX35_reckon_116 : decode cX35_reckon 116 = .ok (.lstore 5, 2) := dc_55 (a := 5) (by decide +kernel)
theorem dX35_reckon_118 : decode cX35_reckon 118 = .ok (.aload_n 0, 1) := dc_42 (by decide +kernel)
theorem dX35_reckon_119 : decode cX35_reckon 119 = .ok (.getfield 321, 3) := dc_180 (a := 1) (b := 65) (n := 321) (by decide +kernel)
theorem dX35_reckon_122 : decode cX35_reckon 122 = .ok (.ifCond .ne 40, 3) := dc_154 (a := 0) (b := 40) (v := 40) (by decide +kernel)
theorem dX35_reckon_125 : decode cX35_reckon 125 = .ok (.aload_n 0, 1) := dc_42 (by decide +kernel)
theorem dX35_reckon_126 : decode cX35_reckon 126 = .ok (.iload 4, 2) := dc_21 (a := 4) (by decide +kernel)
theorem dX35_reckon_128 : decode cX35_reckon 128 = .ok (.aload_n 0, 1) := dc_42 (by decide +kernel)
theorem dX35_reckon_129 : decode cX35_reckon 129 = .ok (.aload_n 0, 1) := dc_42 (by decide +kernel)
theorem dX35_reckon_130 : decode cX35_reckon 130 = .ok (.iload 4, 2) := dc_21 (a := 4) (by decide +kernel)
theorem dX35_reckon_132 : decode cX35_reckon 132 = .ok (.invokevirtual 431, 3) := dc_182 (a := 1) (b := 175) (n := 431) (by decide +kernel)
theorem dX35_reckon_135 : decode cX35_reckon 135 = .ok (.i2l, 1) := dc_133 (by decide +kernel)
theorem dX35_reckon_136 : decode cX35_reckon 136 = .ok (.lload 5, 2) := dc_22 (a := 5) (by decide +kernel)
theorem dX35_reckon_138 : decode cX35_reckon 138 = .ok (.iload_n 1, 1) := dc_27 (by decide +kernel)
theorem dX35_reckon_139 : decode cX35_reckon 139 = .ok (.iload_n 3, 1) := dc_29 (by decide +kernel)
theorem dX35_reckon_140 : decode cX35_reckon 140 = .ok (.invokestatic 634, 3) := dc_184 (a := 2) (b := 122) (n := 634) (by decide +kernel)
theorem dX35_reckon_143 : decode cX35_reckon 143 = .ok (.ifCond .eq 9, 3) := dc_153 (a := 0) (b := 9) (v := 9) (by decide +kernel)
theorem dX35_reckon_146 : decode cX35_reckon 146 = .ok (.ldc2_w 646, 3) := dc_20 (a := 2) (b := 134) (n := 646) (by decide +kernel)
theorem dX35_reckon_149 : decode cX35_reckon 149 = .ok (.goto 6, 3) := dc_167 (a := 0) (b := 6) (v := 6) (by decide +kernel)
theorem dX35_reckon_152 : decode cX35_reckon 152 = .ok (.ldc2_w 738, 3) := dc_20 (a := 2) (b := 226) (n := 738) (by decide +kernel)
theorem dX35_reckon_155 : decode cX35_reckon 155 = .ok (.invokevirtual 1263, 3) := dc_182 (a := 4) (b := 239) (n := 1263) (by decide +kernel)
theorem dX35_reckon_158 : decode cX35_reckon 158 = .ok (.iload_n 2, 1) := dc_28 (by decide +kernel)
theorem dX35_reckon_159 : decode cX35_reckon 159 = .ok (.invokevirtual 477, 3) := dc_182 (a := 1) (b := 221) (n := 477) (by decide +kernel)
theorem dX35_reckon_162 : decode cX35_reckon 162 = .ok (.return_, 1) := dc_177 (by decide +kernel)
def fX35_reckon_b162 (N : Nat) (sE : Nat → Int32 → eH → Option (Unit × eH)) (sN : Nat → eH → Option (Int32 × eH))  (h : eH) : Option (Unit × eH) :=
  some ((), h)
theorem pX35_reckon_b162 {w : eW} {d : Nat} {dr : Nat} (hd : dr + 13 ≤ d + 1) (hdr : 12 ≤ dr) {N : Nat} {sE : Nat → Int32 → eH → Option (Unit × eH)} {sN : Nat → eH → Option (Int32 × eH)} (hsE : ∀ a t0 h q, sE a t0 h = some q → wm w dr YX35_expand [.ref a, .int t0] h (e_is (e_rn c_V q))) (hsN : ∀ a h q, sN a h = some q → wm w dr YX35_number [.ref a] h (e_is (e_rn c_I q)))  {h : eH} {q} (hf : fX35_reckon_b162 N sE sN h = some q) : wp w (d + 1) YX35_reckon 162 [none, none, none, none, none, none, none] [] h (e_is (e_rn c_V q)) := by
  unfold fX35_reckon_b162 at hf
  cases hf
  exact w_vret dX35_reckon_162 rfl rfl
def fX35_reckon_b155 (N : Nat) (sE : Nat → Int32 → eH → Option (Unit × eH)) (sN : Nat → eH → Option (Int32 × eH)) (l2 : Int32) (s0 : Nat) (s1 : Int32) (s2 : Nat) (s3 : Int64) (s4 : Int64) (s5 : Int32) (s6 : Int64) (h : eH) : Option (Unit × eH) :=
  (k_ok 34 h s2).bind fun _ =>
  (fX35_reckoned s2 s3 s4 s5 s6 h).bind fun q2 =>
  (k_ok 34 q2.2 s0).bind fun _ =>
  (fX35_setAt N s0 s1 q2.1 l2 q2.2).bind fun q4 =>
  fX35_reckon_b162 N sE sN q4.2
theorem pX35_reckon_b155 {w : eW} {d : Nat} {dr : Nat} (hd : dr + 13 ≤ d + 1) (hdr : 12 ≤ dr) {N : Nat} {sE : Nat → Int32 → eH → Option (Unit × eH)} {sN : Nat → eH → Option (Int32 × eH)} (hsE : ∀ a t0 h q, sE a t0 h = some q → wm w dr YX35_expand [.ref a, .int t0] h (e_is (e_rn c_V q))) (hsN : ∀ a h q, sN a h = some q → wm w dr YX35_number [.ref a] h (e_is (e_rn c_I q))) {l2 : Int32} {s0 : Nat} {s1 : Int32} {s2 : Nat} {s3 : Int64} {s4 : Int64} {s5 : Int32} {s6 : Int64} {h : eH} {q} (hf : fX35_reckon_b155 N sE sN l2 s0 s1 s2 s3 s4 s5 s6 h = some q) : wp w (d + 1) YX35_reckon 155 [none, none, some (.int l2), none, none, none, none] [.long s6, .int s5, .long s4, .long s3, .ref s2, .int s1, .ref s0] h (e_is (e_rn c_V q)) := by
  unfold fX35_reckon_b155 at hf
  obtain ⟨_, b1, hf⟩ := Option.bind_eq_some_iff.mp hf
  refine x_cnI hf (e_stV (Yc := YX35_reckoned) (ci := 34) (av := [.long s3, .long s4, .int s5, .long s6]) (st := [.int s1, .ref s0]) dX35_reckon_155 q5975 mX35_reckoned rfl (k_ok_some b1).1 (k_ok_some b1).2) mX35_reckoned.2.2.1 mX35_reckoned.2.2.2.2.1 (Nat.le_of_ble_eq_true rfl) (Nat.le_of_ble_eq_true rfl) (fun q hq => pX35_reckoned (by omega) hq) (fun q2 hf => ?_)
  refine w_iload_n dX35_reckon_158 rfl rfl ?_
  obtain ⟨_, b3, hf⟩ := Option.bind_eq_some_iff.mp hf
  refine x_cnV hf (e_stV (Yc := YX35_setAt) (ci := 34) (av := [.int s1, .int q2.1, .int l2]) (st := []) dX35_reckon_159 q5205 mX35_setAt rfl (k_ok_some b3).1 (k_ok_some b3).2) mX35_setAt.2.2.1 mX35_setAt.2.2.2.2.1 (Nat.le_of_ble_eq_true rfl) (Nat.le_of_ble_eq_true rfl) (fun q hq => pX35_setAt (by omega) hq) (fun q4 hf => ?_)
  exact (pX35_reckon_b162 hd hdr hsE hsN hf).to trivial
def fX35_reckon_b116 (N : Nat) (sE : Nat → Int32 → eH → Option (Unit × eH)) (sN : Nat → eH → Option (Int32 × eH)) (l0 : Nat) (l1 : Int32) (l2 : Int32) (l3 : Int32) (l4 : Int32) (s0 : Int64) (h : eH) : Option (Unit × eH) :=
  (g_I 34 h l0 46).bind fun x1 =>
  if ¬ x1 = 0 then
    fX35_reckon_b162 N sE sN h
  else
    (k_ok 34 h l0).bind fun _ =>
    (fX35_now l0 l4 h).bind fun q5 =>
    (fX35_isCounter l3 q5.2).bind fun q6 =>
    if q6.1 = 0 then
      fX35_reckon_b155 N sE sN l2 l0 l4 l0 (q5.1).toInt64 s0 l1 (1073741823 : Int64) q6.2
    else
      fX35_reckon_b155 N sE sN l2 l0 l4 l0 (q5.1).toInt64 s0 l1 (2147483647 : Int64) q6.2
theorem pX35_reckon_b116 {w : eW} {d : Nat} {dr : Nat} (hd : dr + 13 ≤ d + 1) (hdr : 12 ≤ dr) {N : Nat} {sE : Nat → Int32 → eH → Option (Unit × eH)} {sN : Nat → eH → Option (Int32 × eH)} (hsE : ∀ a t0 h q, sE a t0 h = some q → wm w dr YX35_expand [.ref a, .int t0] h (e_is (e_rn c_V q))) (hsN : ∀ a h q, sN a h = some q → wm w dr YX35_number [.ref a] h (e_is (e_rn c_I q))) {l0 : Nat} {l1 : Int32} {l2 : Int32} {l3 : Int32} {l4 : Int32} {s0 : Int64} {h : eH} {q} (hf : fX35_reckon_b116 N sE sN l0 l1 l2 l3 l4 s0 h = some q) : wp w (d + 1) YX35_reckon 116 [some (.ref l0), some (.int l1), some (.int l2), some (.int l3), some (.int l4), none, none] [.long s0] h (e_is (e_rn c_V q)) := by
  unfold fX35_reckon_b116 at hf
  refine w_lstore dX35_reckon_116 (by decide) (ls' := [some (.ref l0), some (.int l1), some (.int l2), some (.int l3), some (.int l4), some (.long s0), none]) rfl ?_
  refine w_aload_n dX35_reckon_118 rfl rfl ?_
  obtain ⟨x1, b2, hf⟩ := Option.bind_eq_some_iff.mp hf
  refine GX35_321 b2 dX35_reckon_119 rfl ?_
  refine w_if_ne 162 dX35_reckon_122 (by decide) (fun c3 => ?_) (fun c3 => ?_)
  · replace hf := (if_pos (show ¬ x1 = 0 from c3)).symm.trans hf
    exact (pX35_reckon_b162 hd hdr hsE hsN hf).to trivial
  · replace hf := (if_neg (show ¬ (¬ x1 = 0) from (fun z => z c3))).symm.trans hf
    refine w_aload_n dX35_reckon_125 rfl rfl ?_
    refine w_iload dX35_reckon_126 rfl ?_
    refine w_aload_n dX35_reckon_128 rfl rfl ?_
    refine w_aload_n dX35_reckon_129 rfl rfl ?_
    refine w_iload dX35_reckon_130 rfl ?_
    obtain ⟨_, b4, hf⟩ := Option.bind_eq_some_iff.mp hf
    refine x_cnI hf (e_stV (Yc := YX35_now) (ci := 34) (av := [.int l4]) (st := [.ref l0, .int l4, .ref l0]) dX35_reckon_132 q5097 mX35_now rfl (k_ok_some b4).1 (k_ok_some b4).2) mX35_now.2.2.1 mX35_now.2.2.2.2.1 (Nat.le_of_ble_eq_true rfl) (Nat.le_of_ble_eq_true rfl) (fun q hq => pX35_now (by omega) hq) (fun q5 hf => ?_)
    refine w_i2l dX35_reckon_135 ?_
    refine w_lload dX35_reckon_136 rfl ?_
    refine w_iload_n dX35_reckon_138 rfl rfl ?_
    refine w_iload_n dX35_reckon_139 rfl rfl ?_
    refine x_cnI hf (e_stS (Yc := YX35_isCounter) (av := [.int l3]) (st := [.int l1, .long s0, .long (q5.1).toInt64, .ref l0, .int l4, .ref l0]) dX35_reckon_140 q5258 mX35_isCounter) mX35_isCounter.2.2.1 mX35_isCounter.2.2.2.2.1 (Nat.le_of_ble_eq_true rfl) (Nat.le_of_ble_eq_true rfl) (fun q hq => pX35_isCounter (by omega) hq) (fun q6 hf => ?_)
    refine w_if_eq 152 dX35_reckon_143 (by decide) (fun c7 => ?_) (fun c7 => ?_)
    · replace hf := (if_pos (show q6.1 = 0 from c7)).symm.trans hf
      refine w_ldc2 dX35_reckon_152 q5416 ?_
      exact (pX35_reckon_b155 hd hdr hsE hsN hf).to ⟨rfl, trivial⟩
    · replace hf := (if_neg (show ¬ (q6.1 = 0) from c7)).symm.trans hf
      refine w_ldc2 dX35_reckon_146 q5241 ?_
      refine w_goto 155 dX35_reckon_149 (by decide) ?_
      exact (pX35_reckon_b155 hd hdr hsE hsN hf).to ⟨rfl, trivial⟩
def fX35_reckon_b111 (N : Nat) (sE : Nat → Int32 → eH → Option (Unit × eH)) (sN : Nat → eH → Option (Int32 × eH)) (l0 : Nat) (l1 : Int32) (l2 : Int32) (l3 : Int32) (l4 : Int32) (h : eH) : Option (Unit × eH) :=
  (k_ok 34 h l0).bind fun _ =>
  (sN l0 h).bind fun q2 =>
  fX35_reckon_b116 N sE sN l0 l1 l2 l3 l4 (q2.1).toInt64 q2.2
theorem pX35_reckon_b111 {w : eW} {d : Nat} {dr : Nat} (hd : dr + 13 ≤ d + 1) (hdr : 12 ≤ dr) {N : Nat} {sE : Nat → Int32 → eH → Option (Unit × eH)} {sN : Nat → eH → Option (Int32 × eH)} (hsE : ∀ a t0 h q, sE a t0 h = some q → wm w dr YX35_expand [.ref a, .int t0] h (e_is (e_rn c_V q))) (hsN : ∀ a h q, sN a h = some q → wm w dr YX35_number [.ref a] h (e_is (e_rn c_I q))) {l0 : Nat} {l1 : Int32} {l2 : Int32} {l3 : Int32} {l4 : Int32} {h : eH} {q} (hf : fX35_reckon_b111 N sE sN l0 l1 l2 l3 l4 h = some q) : wp w (d + 1) YX35_reckon 111 [some (.ref l0), some (.int l1), some (.int l2), some (.int l3), some (.int l4), none, none] [] h (e_is (e_rn c_V q)) := by
  unfold fX35_reckon_b111 at hf
  refine w_aload_n dX35_reckon_111 rfl rfl ?_
  obtain ⟨_, b1, hf⟩ := Option.bind_eq_some_iff.mp hf
  refine x_cnI hf (e_stV (Yc := YX35_number) (ci := 34) (av := []) (st := []) dX35_reckon_112 q5217 mX35_number rfl (k_ok_some b1).1 (k_ok_some b1).2) mX35_number.2.2.1 mX35_number.2.2.2.2.1 (Nat.le_of_ble_eq_true rfl) (Nat.le_of_ble_eq_true rfl) (fun q hq => (hsN _ _ _ hq).up (by omega)) (fun q2 hf => ?_)
  refine w_i2l dX35_reckon_115 ?_
  exact (pX35_reckon_b116 hd hdr hsE hsN hf).to ⟨rfl, rfl, rfl, rfl, rfl, trivial⟩
def fX35_reckon_b43 (N : Nat) (sE : Nat → Int32 → eH → Option (Unit × eH)) (sN : Nat → eH → Option (Int32 × eH)) (l0 : Nat) (l1 : Int32) (l2 : Int32) (l3 : Int32) (h : eH) : Option (Unit × eH) :=
  (g_I 34 h l0 46).bind fun x1 =>
  if x1 ≤ 0 then
    (k_ok 34 h l0).bind fun _ =>
    (fX35_at sN l0 l3 h).bind fun q5 =>
    (g_I 34 q5.2 l0 46).bind fun x6 =>
    if x6 ≤ 0 then
      (k_ok 34 q5.2 l0).bind fun _ =>
      (fX35_keyword N sE l0 1000000136 q5.2).bind fun q10 =>
      (fX35_isGlue l3 q10.2).bind fun q11 =>
      if q11.1 = 0 then
        if ¬ l1 = (36 : Int32) then
          fX35_reckon_b111 N sE sN l0 l1 l2 l3 q5.1 q11.2
        else
          (fX35_isLength l3 q11.2).bind fun q14 =>
          if q14.1 = 0 then
            fX35_reckon_b111 N sE sN l0 l1 l2 l3 q5.1 q14.2
          else
            (k_ok 34 q14.2 l0).bind fun _ =>
            (fX35_dimension N sE sN l0 q14.2).bind fun q17 =>
            fX35_reckon_b116 N sE sN l0 l1 l2 l3 q5.1 (q17.1).toInt64 q17.2
      else
        (k_ok 34 q11.2 l0).bind fun _ =>
        (fX35_reckonGlue N sE sN l0 q5.1 l1 l2 q11.2).bind fun q19 =>
        some ((), q19.2)
    else
      some ((), q5.2)
  else
    some ((), h)
theorem pX35_reckon_b43 {w : eW} {d : Nat} {dr : Nat} (hd : dr + 13 ≤ d + 1) (hdr : 12 ≤ dr) {N : Nat} {sE : Nat → Int32 → eH → Option (Unit × eH)} {sN : Nat → eH → Option (Int32 × eH)} (hsE : ∀ a t0 h q, sE a t0 h = some q → wm w dr YX35_expand [.ref a, .int t0] h (e_is (e_rn c_V q))) (hsN : ∀ a h q, sN a h = some q → wm w dr YX35_number [.ref a] h (e_is (e_rn c_I q))) {l0 : Nat} {l1 : Int32} {l2 : Int32} {l3 : Int32} {h : eH} {q} (hf : fX35_reckon_b43 N sE sN l0 l1 l2 l3 h = some q) : wp w (d + 1) YX35_reckon 43 [some (.ref l0), some (.int l1), some (.int l2), some (.int l3), none, none, none] [] h (e_is (e_rn c_V q)) := by
  unfold fX35_reckon_b43 at hf
  refine w_aload_n dX35_reckon_43 rfl rfl ?_
  obtain ⟨x1, b2, hf⟩ := Option.bind_eq_some_iff.mp hf
  refine GX35_321 b2 dX35_reckon_44 rfl ?_
  refine w_if_le 51 dX35_reckon_47 (by decide) (fun c3 => ?_) (fun c3 => ?_)
  · replace hf := (if_pos (show x1 ≤ 0 from c3)).symm.trans hf
    refine w_aload_n dX35_reckon_51 rfl rfl ?_
    refine w_iload_n dX35_reckon_52 rfl rfl ?_
    obtain ⟨_, b4, hf⟩ := Option.bind_eq_some_iff.mp hf
    refine x_cnI hf (e_stV (Yc := YX35_at) (ci := 34) (av := [.int l3]) (st := []) dX35_reckon_53 q5275 mX35_at rfl (k_ok_some b4).1 (k_ok_some b4).2) mX35_at.2.2.1 mX35_at.2.2.2.2.1 (Nat.le_of_ble_eq_true rfl) (Nat.le_of_ble_eq_true rfl) (fun q hq => pX35_at (by omega) hdr hsN hq) (fun q5 hf => ?_)
    refine w_istore dX35_reckon_56 (by decide) (ls' := [some (.ref l0), some (.int l1), some (.int l2), some (.int l3), some (.int q5.1), none, none]) rfl ?_
    refine w_aload_n dX35_reckon_58 rfl rfl ?_
    obtain ⟨x6, b7, hf⟩ := Option.bind_eq_some_iff.mp hf
    refine GX35_321 b7 dX35_reckon_59 rfl ?_
    refine w_if_le 66 dX35_reckon_62 (by decide) (fun c8 => ?_) (fun c8 => ?_)
    · replace hf := (if_pos (show x6 ≤ 0 from c8)).symm.trans hf
      refine w_aload_n dX35_reckon_66 rfl rfl ?_
      refine x_ldcSw (k := 36) dX35_reckon_67 rfl ?_
      obtain ⟨_, b9, hf⟩ := Option.bind_eq_some_iff.mp hf
      refine x_cnI hf (e_stV (Yc := YX35_keyword) (ci := 34) (av := [.ref 1000000136]) (st := []) dX35_reckon_70 q5347 mX35_keyword rfl (k_ok_some b9).1 (k_ok_some b9).2) mX35_keyword.2.2.1 mX35_keyword.2.2.2.2.1 (Nat.le_of_ble_eq_true rfl) (Nat.le_of_ble_eq_true rfl) (fun q hq => pX35_keyword (by omega) hdr hsE hq) (fun q10 hf => ?_)
      refine w_pop dX35_reckon_73 rfl ?_
      refine w_iload_n dX35_reckon_74 rfl rfl ?_
      refine x_cnI hf (e_stS (Yc := YX35_isGlue) (av := [.int l3]) (st := []) dX35_reckon_75 q5293 mX35_isGlue) mX35_isGlue.2.2.1 mX35_isGlue.2.2.2.2.1 (Nat.le_of_ble_eq_true rfl) (Nat.le_of_ble_eq_true rfl) (fun q hq => pX35_isGlue (by omega) hq) (fun q11 hf => ?_)
      refine w_if_eq 90 dX35_reckon_78 (by decide) (fun c12 => ?_) (fun c12 => ?_)
      · replace hf := (if_pos (show q11.1 = 0 from c12)).symm.trans hf
        refine w_iload_n dX35_reckon_90 rfl rfl ?_
        refine w_bipush dX35_reckon_91 (v := 36) (by decide) ?_
        refine w_icmp_ne 111 dX35_reckon_93 (by decide) (fun c13 => ?_) (fun c13 => ?_)
        · replace hf := (if_pos (show ¬ l1 = (36 : Int32) from c13)).symm.trans hf
          exact (pX35_reckon_b111 hd hdr hsE hsN hf).to ⟨rfl, rfl, rfl, rfl, rfl, trivial⟩
        · replace hf := (if_neg (show ¬ (¬ l1 = (36 : Int32)) from (fun z => z c13))).symm.trans hf
          refine w_iload_n dX35_reckon_96 rfl rfl ?_
          refine x_cnI hf (e_stS (Yc := YX35_isLength) (av := [.int l3]) (st := []) dX35_reckon_97 q5283 mX35_isLength) mX35_isLength.2.2.1 mX35_isLength.2.2.2.2.1 (Nat.le_of_ble_eq_true rfl) (Nat.le_of_ble_eq_true rfl) (fun q hq => pX35_isLength (by omega) hq) (fun q14 hf => ?_)
          refine w_if_eq 111 dX35_reckon_100 (by decide) (fun c15 => ?_) (fun c15 => ?_)
          · replace hf := (if_pos (show q14.1 = 0 from c15)).symm.trans hf
            exact (pX35_reckon_b111 hd hdr hsE hsN hf).to ⟨rfl, rfl, rfl, rfl, rfl, trivial⟩
          · replace hf := (if_neg (show ¬ (q14.1 = 0) from c15)).symm.trans hf
            refine w_aload_n dX35_reckon_103 rfl rfl ?_
            obtain ⟨_, b16, hf⟩ := Option.bind_eq_some_iff.mp hf
            refine x_cnI hf (e_stV (Yc := YX35_dimension) (ci := 34) (av := []) (st := []) dX35_reckon_104 q5333 mX35_dimension rfl (k_ok_some b16).1 (k_ok_some b16).2) mX35_dimension.2.2.1 mX35_dimension.2.2.2.2.1 (Nat.le_of_ble_eq_true rfl) (Nat.le_of_ble_eq_true rfl) (fun q hq => pX35_dimension (by omega) hdr hsE hsN hq) (fun q17 hf => ?_)
            refine w_i2l dX35_reckon_107 ?_
            refine w_goto 116 dX35_reckon_108 (by decide) ?_
            exact (pX35_reckon_b116 hd hdr hsE hsN hf).to ⟨rfl, rfl, rfl, rfl, rfl, trivial⟩
      · replace hf := (if_neg (show ¬ (q11.1 = 0) from c12)).symm.trans hf
        refine w_aload_n dX35_reckon_81 rfl rfl ?_
        refine w_iload dX35_reckon_82 rfl ?_
        refine w_iload_n dX35_reckon_84 rfl rfl ?_
        refine w_iload_n dX35_reckon_85 rfl rfl ?_
        obtain ⟨_, b18, hf⟩ := Option.bind_eq_some_iff.mp hf
        refine x_cnV hf (e_stV (Yc := YX35_reckonGlue) (ci := 34) (av := [.int q5.1, .int l1, .int l2]) (st := []) dX35_reckon_86 q5965 mX35_reckonGlue rfl (k_ok_some b18).1 (k_ok_some b18).2) mX35_reckonGlue.2.2.1 mX35_reckonGlue.2.2.2.2.1 (Nat.le_of_ble_eq_true rfl) (Nat.le_of_ble_eq_true rfl) (fun q hq => pX35_reckonGlue (by omega) hdr hsE hsN hq) (fun q19 hf => ?_)
        cases hf
        exact w_vret dX35_reckon_89 rfl rfl
    · replace hf := (if_neg (show ¬ (x6 ≤ 0) from c8)).symm.trans hf
      cases hf
      exact w_vret dX35_reckon_65 rfl rfl
  · replace hf := (if_neg (show ¬ (x1 ≤ 0) from c3)).symm.trans hf
    cases hf
    exact w_vret dX35_reckon_50 rfl rfl
def fX35_reckon (N : Nat) (sE : Nat → Int32 → eH → Option (Unit × eH)) (sN : Nat → eH → Option (Int32 × eH)) (this : Nat) (p0 : Int32) (p1 : Int32) (h : eH) : Option (Unit × eH) :=
  (k_ok 34 h this).bind fun _ =>
  (fX35_needExpandedNoSpace N sE this h).bind fun q2 =>
  (k_ok 34 q2.2 this).bind fun _ =>
  (fX35_primitiveOf this q2.1 q2.2).bind fun q4 =>
  (g_I 34 q4.2 this 46).bind fun x5 =>
  if ¬ x5 = 0 then
    fX35_reckon_b43 N sE sN this p0 p1 q4.1 q4.2
  else
    (fX35_isCounter q4.1 q4.2).bind fun q8 =>
    if ¬ q8.1 = 0 then
      fX35_reckon_b43 N sE sN this p0 p1 q4.1 q8.2
    else
      (fX35_isLength q4.1 q8.2).bind fun q10 =>
      if ¬ q10.1 = 0 then
        fX35_reckon_b43 N sE sN this p0 p1 q4.1 q10.2
      else
        (fX35_isGlue q4.1 q10.2).bind fun q12 =>
        if ¬ q12.1 = 0 then
          fX35_reckon_b43 N sE sN this p0 p1 q4.1 q12.2
        else
          (k_ok 34 q12.2 this).bind fun _ =>
          (fX35_fail this (6 : Int32) q12.2).bind fun q15 =>
          fX35_reckon_b43 N sE sN this p0 p1 q4.1 q15.2
theorem pX35_reckon {w : eW} {d : Nat} {dr : Nat} (hd : dr + 13 ≤ d) (hdr : 12 ≤ dr) {N : Nat} {sE : Nat → Int32 → eH → Option (Unit × eH)} {sN : Nat → eH → Option (Int32 × eH)} (hsE : ∀ a t0 h q, sE a t0 h = some q → wm w dr YX35_expand [.ref a, .int t0] h (e_is (e_rn c_V q))) (hsN : ∀ a h q, sN a h = some q → wm w dr YX35_number [.ref a] h (e_is (e_rn c_I q))) {this : Nat} {p0 : Int32} {p1 : Int32} {h : eH} {q} (hf : fX35_reckon N sE sN this p0 p1 h = some q) : wm w d YX35_reckon [.ref this, .int p0, .int p1] h (e_is (e_rn c_V q)) := by
  obtain ⟨d, rfl⟩ : ∃ e, d = e + 1 := ⟨d - 1, by omega⟩
  show wp w (d + 1) YX35_reckon 0 [some (.ref this), some (.int p0), some (.int p1), none, none, none, none] [] h _
  unfold fX35_reckon at hf
  refine w_aload_n dX35_reckon_0 rfl rfl ?_
  refine w_aload_n dX35_reckon_1 rfl rfl ?_
  obtain ⟨_, b1, hf⟩ := Option.bind_eq_some_iff.mp hf
  refine x_cnI hf (e_stV (Yc := YX35_needExpandedNoSpace) (ci := 34) (av := []) (st := [.ref this]) dX35_reckon_2 q5365 mX35_needExpandedNoSpace rfl (k_ok_some b1).1 (k_ok_some b1).2) mX35_needExpandedNoSpace.2.2.1 mX35_needExpandedNoSpace.2.2.2.2.1 (Nat.le_of_ble_eq_true rfl) (Nat.le_of_ble_eq_true rfl) (fun q hq => pX35_needExpandedNoSpace (by omega) hdr hsE hq) (fun q2 hf => ?_)
  obtain ⟨_, b3, hf⟩ := Option.bind_eq_some_iff.mp hf
  refine x_cnI hf (e_stV (Yc := YX35_primitiveOf) (ci := 34) (av := [.int q2.1]) (st := []) dX35_reckon_5 q5254 mX35_primitiveOf rfl (k_ok_some b3).1 (k_ok_some b3).2) mX35_primitiveOf.2.2.1 mX35_primitiveOf.2.2.2.2.1 (Nat.le_of_ble_eq_true rfl) (Nat.le_of_ble_eq_true rfl) (fun q hq => pX35_primitiveOf (by omega) hq) (fun q4 hf => ?_)
  refine w_istore_n dX35_reckon_8 rfl (by decide) (ls' := [some (.ref this), some (.int p0), some (.int p1), some (.int q4.1), none, none, none]) rfl ?_
  refine w_aload_n dX35_reckon_9 rfl rfl ?_
  obtain ⟨x5, b6, hf⟩ := Option.bind_eq_some_iff.mp hf
  refine GX35_321 b6 dX35_reckon_10 rfl ?_
  refine w_if_ne 43 dX35_reckon_13 (by decide) (fun c7 => ?_) (fun c7 => ?_)
  · replace hf := (if_pos (show ¬ x5 = 0 from c7)).symm.trans hf
    exact (pX35_reckon_b43 hd hdr hsE hsN hf).to ⟨rfl, rfl, rfl, rfl, trivial⟩
  · replace hf := (if_neg (show ¬ (¬ x5 = 0) from (fun z => z c7))).symm.trans hf
    refine w_iload_n dX35_reckon_16 rfl rfl ?_
    refine x_cnI hf (e_stS (Yc := YX35_isCounter) (av := [.int q4.1]) (st := []) dX35_reckon_17 q5258 mX35_isCounter) mX35_isCounter.2.2.1 mX35_isCounter.2.2.2.2.1 (Nat.le_of_ble_eq_true rfl) (Nat.le_of_ble_eq_true rfl) (fun q hq => pX35_isCounter (by omega) hq) (fun q8 hf => ?_)
    refine w_if_ne 43 dX35_reckon_20 (by decide) (fun c9 => ?_) (fun c9 => ?_)
    · replace hf := (if_pos (show ¬ q8.1 = 0 from c9)).symm.trans hf
      exact (pX35_reckon_b43 hd hdr hsE hsN hf).to ⟨rfl, rfl, rfl, rfl, trivial⟩
    · replace hf := (if_neg (show ¬ (¬ q8.1 = 0) from (fun z => z c9))).symm.trans hf
      refine w_iload_n dX35_reckon_23 rfl rfl ?_
      refine x_cnI hf (e_stS (Yc := YX35_isLength) (av := [.int q4.1]) (st := []) dX35_reckon_24 q5283 mX35_isLength) mX35_isLength.2.2.1 mX35_isLength.2.2.2.2.1 (Nat.le_of_ble_eq_true rfl) (Nat.le_of_ble_eq_true rfl) (fun q hq => pX35_isLength (by omega) hq) (fun q10 hf => ?_)
      refine w_if_ne 43 dX35_reckon_27 (by decide) (fun c11 => ?_) (fun c11 => ?_)
      · replace hf := (if_pos (show ¬ q10.1 = 0 from c11)).symm.trans hf
        exact (pX35_reckon_b43 hd hdr hsE hsN hf).to ⟨rfl, rfl, rfl, rfl, trivial⟩
      · replace hf := (if_neg (show ¬ (¬ q10.1 = 0) from (fun z => z c11))).symm.trans hf
        refine w_iload_n dX35_reckon_30 rfl rfl ?_
        refine x_cnI hf (e_stS (Yc := YX35_isGlue) (av := [.int q4.1]) (st := []) dX35_reckon_31 q5293 mX35_isGlue) mX35_isGlue.2.2.1 mX35_isGlue.2.2.2.2.1 (Nat.le_of_ble_eq_true rfl) (Nat.le_of_ble_eq_true rfl) (fun q hq => pX35_isGlue (by omega) hq) (fun q12 hf => ?_)
        refine w_if_ne 43 dX35_reckon_34 (by decide) (fun c13 => ?_) (fun c13 => ?_)
        · replace hf := (if_pos (show ¬ q12.1 = 0 from c13)).symm.trans hf
          exact (pX35_reckon_b43 hd hdr hsE hsN hf).to ⟨rfl, rfl, rfl, rfl, trivial⟩
        · replace hf := (if_neg (show ¬ (¬ q12.1 = 0) from (fun z => z c13))).symm.trans hf
          refine w_aload_n dX35_reckon_37 rfl rfl ?_
          refine w_bipush dX35_reckon_38 (v := 6) (by decide) ?_
          obtain ⟨_, b14, hf⟩ := Option.bind_eq_some_iff.mp hf
          refine x_cnV hf (e_stV (Yc := YX35_fail) (ci := 34) (av := [.int (6 : Int32)]) (st := []) dX35_reckon_40 q5109 mX35_fail rfl (k_ok_some b14).1 (k_ok_some b14).2) mX35_fail.2.2.1 mX35_fail.2.2.2.2.1 (Nat.le_of_ble_eq_true rfl) (Nat.le_of_ble_eq_true rfl) (fun q hq => pX35_fail (by omega) hq) (fun q15 hf => ?_)
          exact (pX35_reckon_b43 hd hdr hsE hsN hf).to ⟨rfl, rfl, rfl, rfl, trivial⟩
abbrev cX35_quantity : ByteArray := prog_37_method_188_code
def yX35_quantity : MethodName := ⟨RX35, "quantity", "(IZ)V"⟩
def YX35_quantity : eY := (yX35_quantity, cX35_quantity, 4, none, [])
theorem mX35_quantity : e_mv YX35_quantity RX35 2 := ⟨q5999, qs413, q6000, by decide, by decide +kernel, (e_sig (by decide +kernel))⟩
theorem dX35_quantity_0 : decode cX35_quantity 0 = .ok (.aload_n 0, 1) := dc_42 (by decide +kernel)
theorem dX35_quantity_1 : decode cX35_quantity 1 = .ok (.iload_n 1, 1) := dc_27 (by decide +kernel)
theorem dX35_quantity_2 : decode cX35_quantity 2 = .ok (.invokevirtual 640, 3) := dc_182 (a := 2) (b := 128) (n := 640) (by decide +kernel)
theorem dX35_quantity_5 : decode cX35_quantity 5 = .ok (.istore_n 3, 1) := dc_62 (by decide +kernel)
theorem dX35_quantity_6 : decode cX35_quantity 6 = .ok (.aload_n 0, 1) := dc_42 (by decide +kernel)
theorem dX35_quantity_7 : decode cX35_quantity 7 = .ok (.invokevirtual 1233, 3) := dc_182 (a := 4) (b := 209) (n := 1233) (by decide +kernel)
theorem dX35_quantity_10 : decode cX35_quantity 10 = .ok (.iload_n 1, 1) := dc_27 (by decide +kernel)
theorem dX35_quantity_11 : decode cX35_quantity 11 = .ok (.invokestatic 630, 3) := dc_184 (a := 2) (b := 118) (n := 630) (by decide +kernel)
theorem dX35_quantity_14 : decode cX35_quantity 14 = .ok (.ifCond .eq 16, 3) := dc_153 (a := 0) (b := 16) (v := 16) (by decide +kernel)
theorem dX35_quantity_17 : decode cX35_quantity 17 = .ok (.aload_n 0, 1) := dc_42 (by decide +kernel)
theorem dX35_quantity_18 : decode cX35_quantity 18 = .ok (.invokevirtual 1212, 3) := dc_182 (a := 4) (b := 188) (n := 1212) (by decide +kernel)
theorem dX35_quantity_21 : decode cX35_quantity 21 = .ok (.aload_n 0, 1) := dc_42 (by decide +kernel)
theorem dX35_quantity_22 : decode cX35_quantity 22 = .ok (.iload_n 3, 1) := dc_29 (by decide +kernel)
theorem dX35_quantity_23 : decode cX35_quantity 23 = .ok (.iload_n 2, 1) := dc_28 (by decide +kernel)
theorem dX35_quantity_24 : decode cX35_quantity 24 = .ok (.invokevirtual 1245, 3) := dc_182 (a := 4) (b := 221) (n := 1245) (by decide +kernel)
theorem dX35_quantity_27 : decode cX35_quantity 27 = .ok (.goto 27, 3) := dc_167 (a := 0) (b := 27) (v := 27) (by decide +kernel)
theorem dX35_quantity_30 : decode cX35_quantity 30 = .ok (.aload_n 0, 1) := dc_42 (by decide +kernel)
theorem dX35_quantity_31 : decode cX35_quantity 31 = .ok (.iload_n 3, 1) := dc_29 (by decide +kernel)
theorem dX35_quantity_32 : decode cX35_quantity 32 = .ok (.iload_n 1, 1) := dc_27 (by decide +kernel)
theorem dX35_quantity_33 : decode cX35_quantity 33 = .ok (.invokestatic 634, 3) := dc_184 (a := 2) (b := 122) (n := 634) (by decide +kernel)
theorem dX35_quantity_36 : decode cX35_quantity 36 = .ok (.ifCond .eq 10, 3) := dc_153 (a := 0) (b := 10) (v := 10) (by decide +kernel)
theorem dX35_quantity_39 : decode cX35_quantity 39 = .ok (.aload_n 0, 1) := dc_42 (by decide +kernel)
theorem dX35_quantity_40 : decode cX35_quantity 40 = .ok (.invokevirtual 518, 3) := dc_182 (a := 2) (b := 6) (n := 518) (by decide +kernel)
theorem dX35_quantity_43 : decode cX35_quantity 43 = .ok (.goto 7, 3) := dc_167 (a := 0) (b := 7) (v := 7) (by decide +kernel)
theorem dX35_quantity_46 : decode cX35_quantity 46 = .ok (.aload_n 0, 1) := dc_42 (by decide +kernel)
theorem dX35_quantity_47 : decode cX35_quantity 47 = .ok (.invokevirtual 614, 3) := dc_182 (a := 2) (b := 102) (n := 614) (by decide +kernel)
theorem dX35_quantity_50 : decode cX35_quantity 50 = .ok (.iload_n 2, 1) := dc_28 (by decide +kernel)
theorem dX35_quantity_51 : decode cX35_quantity 51 = .ok (.invokevirtual 477, 3) := dc_182 (a := 1) (b := 221) (n := 477) (by decide +kernel)
theorem dX35_quantity_54 : decode cX35_quantity 54 = .ok (.return_, 1) := dc_177 (by decide +kernel)
def fX35_quantity_b54 (N : Nat) (sE : Nat → Int32 → eH → Option (Unit × eH)) (sN : Nat → eH → Option (Int32 × eH))  (h : eH) : Option (Unit × eH) :=
  some ((), h)
theorem pX35_quantity_b54 {w : eW} {d : Nat} {dr : Nat} (hd : dr + 12 ≤ d + 1) (hdr : 12 ≤ dr) {N : Nat} {sE : Nat → Int32 → eH → Option (Unit × eH)} {sN : Nat → eH → Option (Int32 × eH)} (hsE : ∀ a t0 h q, sE a t0 h = some q → wm w dr YX35_expand [.ref a, .int t0] h (e_is (e_rn c_V q))) (hsN : ∀ a h q, sN a h = some q → wm w dr YX35_number [.ref a] h (e_is (e_rn c_I q)))  {h : eH} {q} (hf : fX35_quantity_b54 N sE sN h = some q) : wp w (d + 1) YX35_quantity 54 [none, none, none, none] [] h (e_is (e_rn c_V q)) := by
  unfold fX35_quantity_b54 at hf
  cases hf
  exact w_vret dX35_quantity_54 rfl rfl
def fX35_quantity_b50 (N : Nat) (sE : Nat → Int32 → eH → Option (Unit × eH)) (sN : Nat → eH → Option (Int32 × eH)) (l2 : Int32) (s0 : Nat) (s1 : Int32) (s2 : Int32) (h : eH) : Option (Unit × eH) :=
  (k_ok 34 h s0).bind fun _ =>
  (fX35_setAt N s0 s1 s2 l2 h).bind fun q2 =>
  fX35_quantity_b54 N sE sN q2.2
theorem pX35_quantity_b50 {w : eW} {d : Nat} {dr : Nat} (hd : dr + 12 ≤ d + 1) (hdr : 12 ≤ dr) {N : Nat} {sE : Nat → Int32 → eH → Option (Unit × eH)} {sN : Nat → eH → Option (Int32 × eH)} (hsE : ∀ a t0 h q, sE a t0 h = some q → wm w dr YX35_expand [.ref a, .int t0] h (e_is (e_rn c_V q))) (hsN : ∀ a h q, sN a h = some q → wm w dr YX35_number [.ref a] h (e_is (e_rn c_I q))) {l2 : Int32} {s0 : Nat} {s1 : Int32} {s2 : Int32} {h : eH} {q} (hf : fX35_quantity_b50 N sE sN l2 s0 s1 s2 h = some q) : wp w (d + 1) YX35_quantity 50 [none, none, some (.int l2), none] [.int s2, .int s1, .ref s0] h (e_is (e_rn c_V q)) := by
  unfold fX35_quantity_b50 at hf
  refine w_iload_n dX35_quantity_50 rfl rfl ?_
  obtain ⟨_, b1, hf⟩ := Option.bind_eq_some_iff.mp hf
  refine x_cnV hf (e_stV (Yc := YX35_setAt) (ci := 34) (av := [.int s1, .int s2, .int l2]) (st := []) dX35_quantity_51 q5205 mX35_setAt rfl (k_ok_some b1).1 (k_ok_some b1).2) mX35_setAt.2.2.1 mX35_setAt.2.2.2.2.1 (Nat.le_of_ble_eq_true rfl) (Nat.le_of_ble_eq_true rfl) (fun q hq => pX35_setAt (by omega) hq) (fun q2 hf => ?_)
  exact (pX35_quantity_b54 hd hdr hsE hsN hf).to trivial
def fX35_quantity (N : Nat) (sE : Nat → Int32 → eH → Option (Unit × eH)) (sN : Nat → eH → Option (Int32 × eH)) (this : Nat) (p0 : Int32) (p1 : Int32) (h : eH) : Option (Unit × eH) :=
  (k_ok 34 h this).bind fun _ =>
  (fX35_at sN this p0 h).bind fun q2 =>
  (k_ok 34 q2.2 this).bind fun _ =>
  (fX35_equals N sE this q2.2).bind fun q4 =>
  (fX35_isGlue p0 q4.2).bind fun q5 =>
  if q5.1 = 0 then
    (fX35_isCounter p0 q5.2).bind fun q7 =>
    if q7.1 = 0 then
      (k_ok 34 q7.2 this).bind fun _ =>
      (fX35_dimension N sE sN this q7.2).bind fun q10 =>
      fX35_quantity_b50 N sE sN p1 this q2.1 q10.1 q10.2
    else
      (k_ok 34 q7.2 this).bind fun _ =>
      (sN this q7.2).bind fun q12 =>
      fX35_quantity_b50 N sE sN p1 this q2.1 q12.1 q12.2
  else
    (k_ok 34 q5.2 this).bind fun _ =>
    (fX35_readGlue N sE sN this q5.2).bind fun q14 =>
    (k_ok 34 q14.2 this).bind fun _ =>
    (fX35_setGlue_2 N this q2.1 p1 q14.2).bind fun q16 =>
    fX35_quantity_b54 N sE sN q16.2
theorem pX35_quantity {w : eW} {d : Nat} {dr : Nat} (hd : dr + 12 ≤ d) (hdr : 12 ≤ dr) {N : Nat} {sE : Nat → Int32 → eH → Option (Unit × eH)} {sN : Nat → eH → Option (Int32 × eH)} (hsE : ∀ a t0 h q, sE a t0 h = some q → wm w dr YX35_expand [.ref a, .int t0] h (e_is (e_rn c_V q))) (hsN : ∀ a h q, sN a h = some q → wm w dr YX35_number [.ref a] h (e_is (e_rn c_I q))) {this : Nat} {p0 : Int32} {p1 : Int32} {h : eH} {q} (hf : fX35_quantity N sE sN this p0 p1 h = some q) : wm w d YX35_quantity [.ref this, .int p0, .int p1] h (e_is (e_rn c_V q)) := by
  obtain ⟨d, rfl⟩ : ∃ e, d = e + 1 := ⟨d - 1, by omega⟩
  show wp w (d + 1) YX35_quantity 0 [some (.ref this), some (.int p0), some (.int p1), none] [] h _
  unfold fX35_quantity at hf
  refine w_aload_n dX35_quantity_0 rfl rfl ?_
  refine w_iload_n dX35_quantity_1 rfl rfl ?_
  obtain ⟨_, b1, hf⟩ := Option.bind_eq_some_iff.mp hf
  refine x_cnI hf (e_stV (Yc := YX35_at) (ci := 34) (av := [.int p0]) (st := []) dX35_quantity_2 q5275 mX35_at rfl (k_ok_some b1).1 (k_ok_some b1).2) mX35_at.2.2.1 mX35_at.2.2.2.2.1 (Nat.le_of_ble_eq_true rfl) (Nat.le_of_ble_eq_true rfl) (fun q hq => pX35_at (by omega) hdr hsN hq) (fun q2 hf => ?_)
  refine w_istore_n dX35_quantity_5 rfl (by decide) (ls' := [some (.ref this), some (.int p0), some (.int p1), some (.int q2.1)]) rfl ?_
  refine w_aload_n dX35_quantity_6 rfl rfl ?_
  obtain ⟨_, b3, hf⟩ := Option.bind_eq_some_iff.mp hf
  refine x_cnV hf (e_stV (Yc := YX35_equals) (ci := 34) (av := []) (st := []) dX35_quantity_7 q5938 mX35_equals rfl (k_ok_some b3).1 (k_ok_some b3).2) mX35_equals.2.2.1 mX35_equals.2.2.2.2.1 (Nat.le_of_ble_eq_true rfl) (Nat.le_of_ble_eq_true rfl) (fun q hq => pX35_equals (by omega) hdr hsE hq) (fun q4 hf => ?_)
  refine w_iload_n dX35_quantity_10 rfl rfl ?_
  refine x_cnI hf (e_stS (Yc := YX35_isGlue) (av := [.int p0]) (st := []) dX35_quantity_11 q5293 mX35_isGlue) mX35_isGlue.2.2.1 mX35_isGlue.2.2.2.2.1 (Nat.le_of_ble_eq_true rfl) (Nat.le_of_ble_eq_true rfl) (fun q hq => pX35_isGlue (by omega) hq) (fun q5 hf => ?_)
  refine w_if_eq 30 dX35_quantity_14 (by decide) (fun c6 => ?_) (fun c6 => ?_)
  · replace hf := (if_pos (show q5.1 = 0 from c6)).symm.trans hf
    refine w_aload_n dX35_quantity_30 rfl rfl ?_
    refine w_iload_n dX35_quantity_31 rfl rfl ?_
    refine w_iload_n dX35_quantity_32 rfl rfl ?_
    refine x_cnI hf (e_stS (Yc := YX35_isCounter) (av := [.int p0]) (st := [.int q2.1, .ref this]) dX35_quantity_33 q5258 mX35_isCounter) mX35_isCounter.2.2.1 mX35_isCounter.2.2.2.2.1 (Nat.le_of_ble_eq_true rfl) (Nat.le_of_ble_eq_true rfl) (fun q hq => pX35_isCounter (by omega) hq) (fun q7 hf => ?_)
    refine w_if_eq 46 dX35_quantity_36 (by decide) (fun c8 => ?_) (fun c8 => ?_)
    · replace hf := (if_pos (show q7.1 = 0 from c8)).symm.trans hf
      refine w_aload_n dX35_quantity_46 rfl rfl ?_
      obtain ⟨_, b9, hf⟩ := Option.bind_eq_some_iff.mp hf
      refine x_cnI hf (e_stV (Yc := YX35_dimension) (ci := 34) (av := []) (st := [.int q2.1, .ref this]) dX35_quantity_47 q5333 mX35_dimension rfl (k_ok_some b9).1 (k_ok_some b9).2) mX35_dimension.2.2.1 mX35_dimension.2.2.2.2.1 (Nat.le_of_ble_eq_true rfl) (Nat.le_of_ble_eq_true rfl) (fun q hq => pX35_dimension (by omega) hdr hsE hsN hq) (fun q10 hf => ?_)
      exact (pX35_quantity_b50 hd hdr hsE hsN hf).to ⟨rfl, trivial⟩
    · replace hf := (if_neg (show ¬ (q7.1 = 0) from c8)).symm.trans hf
      refine w_aload_n dX35_quantity_39 rfl rfl ?_
      obtain ⟨_, b11, hf⟩ := Option.bind_eq_some_iff.mp hf
      refine x_cnI hf (e_stV (Yc := YX35_number) (ci := 34) (av := []) (st := [.int q2.1, .ref this]) dX35_quantity_40 q5217 mX35_number rfl (k_ok_some b11).1 (k_ok_some b11).2) mX35_number.2.2.1 mX35_number.2.2.2.2.1 (Nat.le_of_ble_eq_true rfl) (Nat.le_of_ble_eq_true rfl) (fun q hq => (hsN _ _ _ hq).up (by omega)) (fun q12 hf => ?_)
      refine w_goto 50 dX35_quantity_43 (by decide) ?_
      exact (pX35_quantity_b50 hd hdr hsE hsN hf).to ⟨rfl, trivial⟩
  · replace hf := (if_neg (show ¬ (q5.1 = 0) from c6)).symm.trans hf
    refine w_aload_n dX35_quantity_17 rfl rfl ?_
    obtain ⟨_, b13, hf⟩ := Option.bind_eq_some_iff.mp hf
    refine x_cnV hf (e_stV (Yc := YX35_readGlue) (ci := 34) (av := []) (st := []) dX35_quantity_18 q5969 mX35_readGlue rfl (k_ok_some b13).1 (k_ok_some b13).2) mX35_readGlue.2.2.1 mX35_readGlue.2.2.2.2.1 (Nat.le_of_ble_eq_true rfl) (Nat.le_of_ble_eq_true rfl) (fun q hq => pX35_readGlue (by omega) hdr hsE hsN hq) (fun q14 hf => ?_)
    refine w_aload_n dX35_quantity_21 rfl rfl ?_
    refine w_iload_n dX35_quantity_22 rfl rfl ?_
    refine w_iload_n dX35_quantity_23 rfl rfl ?_
    obtain ⟨_, b15, hf⟩ := Option.bind_eq_some_iff.mp hf
    refine x_cnV hf (e_stV (Yc := YX35_setGlue_2) (ci := 34) (av := [.int q2.1, .int p1]) (st := []) dX35_quantity_24 q5979 mX35_setGlue_2 rfl (k_ok_some b15).1 (k_ok_some b15).2) mX35_setGlue_2.2.2.1 mX35_setGlue_2.2.2.2.2.1 (Nat.le_of_ble_eq_true rfl) (Nat.le_of_ble_eq_true rfl) (fun q hq => pX35_setGlue_2 (by omega) hq) (fun q16 hf => ?_)
    refine w_goto 54 dX35_quantity_27 (by decide) ?_
    exact (pX35_quantity_b54 hd hdr hsE hsN hf).to trivial
abbrev cX35_set : ByteArray := prog_37_method_186_code
def yX35_set : MethodName := ⟨RX35, "set", "(IZ)V"⟩
def YX35_set : eY := (yX35_set, cX35_set, 7, none, [])
theorem mX35_set : e_mv YX35_set RX35 2 := ⟨q5920, qs398, q5921, by decide, by decide +kernel, (e_sig (by decide +kernel))⟩
theorem dX35_set_0 : decode cX35_set 0 = .ok (.iload_n 1, 1) := dc_27 (by decide +kernel)
theorem dX35_set_1 : decode cX35_set 1 = .ok (.tableswitch 234 28 40 #[67, 67, 67, 67, 112, 120, 160, 168, 201, 201, 201, 234, 210], 67) := by decide +kernel
theorem dX35_set_68 : decode cX35_set 68 = .ok (.aload_n 0, 1) := dc_42 (by decide +kernel)
theorem dX35_set_69 : decode cX35_set 69 = .ok (.iload_n 1, 1) := dc_27 (by decide +kernel)
theorem dX35_set_70 : decode cX35_set 70 = .ok (.bipush 29, 2) := dc_16 (a := 29) (v := 29) (by decide +kernel)
theorem dX35_set_72 : decode cX35_set 72 = .ok (.if_icmp .eq 9, 3) := dc_159 (a := 0) (b := 9) (v := 9) (by decide +kernel)
theorem dX35_set_75 : decode cX35_set 75 = .ok (.iload_n 1, 1) := dc_27 (by decide +kernel)
theorem dX35_set_76 : decode cX35_set 76 = .ok (.bipush 31, 2) := dc_16 (a := 31) (v := 31) (by decide +kernel)
theorem dX35_set_78 : decode cX35_set 78 = .ok (.if_icmp .ne 7, 3) := dc_160 (a := 0) (b := 7) (v := 7) (by decide +kernel)
theorem dX35_set_81 : decode cX35_set 81 = .ok (.iconst 1, 1) := dc_4 (by decide +kernel)
theorem dX35_set_82 : decode cX35_set 82 = .ok (.goto 4, 3) := dc_167 (a := 0) (b := 4) (v := 4) (by decide +kernel)
theorem dX35_set_85 : decode cX35_set 85 = .ok (.iconst 0, 1) := dc_3 (by decide +kernel)
theorem dX35_set_86 : decode cX35_set 86 = .ok (.iload_n 2, 1) := dc_28 (by decide +kernel)
theorem dX35_set_87 : decode cX35_set 87 = .ok (.ifCond .ne 15, 3) := dc_154 (a := 0) (b := 15) (v := 15) (by decide +kernel)
theorem dX35_set_90 : decode cX35_set 90 = .ok (.iload_n 1, 1) := dc_27 (by decide +kernel)
theorem dX35_set_91 : decode cX35_set 91 = .ok (.bipush 30, 2) := dc_16 (a := 30) (v := 30) (by decide +kernel)
theorem dX35_set_93 : decode cX35_set 93 = .ok (.if_icmp .eq 9, 3) := dc_159 (a := 0) (b := 9) (v := 9) (by decide +kernel)
theorem dX35_set_96 : decode cX35_set 96 = .ok (.iload_n 1, 1) := dc_27 (by decide +kernel)
theorem dX35_set_97 : decode cX35_set 97 = .ok (.bipush 31, 2) := dc_16 (a := 31) (v := 31) (by decide +kernel)
theorem dX35_set_99 : decode cX35_set 99 = .ok (.if_icmp .ne 7, 3) := dc_160 (a := 0) (b := 7) (v := 7) (by decide +kernel)
theorem dX35_set_102 : decode cX35_set 102 = .ok (.iconst 1, 1) := dc_4 (by decide +kernel)
theorem dX35_set_103 : decode cX35_set 103 = .ok (.goto 4, 3) := dc_167 (a := 0) (b := 4) (v := 4) (by decide +kernel)
theorem dX35_set_106 : decode cX35_set 106 = .ok (.iconst 0, 1) := dc_3 (by decide +kernel)
theorem dX35_set_107 : decode cX35_set 107 = .ok (.invokevirtual 1227, 3) := dc_182 (a := 4) (b := 203) (n := 1227) (by decide +kernel)
theorem dX35_set_110 : decode cX35_set 110 = .ok (.goto 131, 3) := dc_167 (a := 0) (b := 131) (v := 131) (by decide +kernel)
theorem dX35_set_113 : decode cX35_set 113 = .ok (.aload_n 0, 1) := dc_42 (by decide +kernel)
theorem dX35_set_114 : decode cX35_set 114 = .ok (.iload_n 2, 1) := dc_28 (by decide +kernel)
theorem dX35_set_115 : decode cX35_set 115 = .ok (.invokevirtual 1230, 3) := dc_182 (a := 4) (b := 206) (n := 1230) (by decide +kernel)
theorem dX35_set_118 : decode cX35_set 118 = .ok (.goto 123, 3) := dc_167 (a := 0) (b := 123) (v := 123) (by decide +kernel)
theorem dX35_set_121 : decode cX35_set 121 = .ok (.aload_n 0, 1) := dc_42 (by decide +kernel)
theorem dX35_set_122 : decode cX35_set 122 = .ok (.invokevirtual 784, 3) := dc_182 (a := 3) (b := 16) (n := 784) (by decide +kernel)
theorem dX35_set_125 : decode cX35_set 125 = .ok (.istore_n 3, 1) := dc_62 (by decide +kernel)
theorem dX35_set_126 : decode cX35_set 126 = .ok (.aload_n 0, 1) := dc_42 (by decide +kernel)
theorem dX35_set_127 : decode cX35_set 127 = .ok (.invokevirtual 1233, 3) := dc_182 (a := 4) (b := 209) (n := 1233) (by decide +kernel)
theorem dX35_set_130 : decode cX35_set 130 = .ok (.aload_n 0, 1) := dc_42 (by decide +kernel)
theorem dX35_set_131 : decode cX35_set 131 = .ok (.sipush 255, 3) := dc_17 (a := 0) (b := 255) (v := 255) (by decide +kernel)
theorem dX35_set_134 : decode cX35_set 134 = .ok (.invokevirtual 590, 3) := dc_182 (a := 2) (b := 78) (n := 590) (by decide +kernel)
theorem dX35_set_137 : decode cX35_set 137 = .ok (.istore 4, 2) := dc_54 (a := 4) (by decide +kernel)
theorem dX35_set_139 : decode cX35_set 139 = .ok (.aload_n 0, 1) := dc_42 (by decide +kernel)
theorem dX35_set_140 : decode cX35_set 140 = .ok (.getfield 321, 3) := dc_180 (a := 1) (b := 65) (n := 321) (by decide +kernel)
theorem dX35_set_143 : decode cX35_set 143 = .ok (.ifCond .ne 98, 3) := dc_154 (a := 0) (b := 98) (v := 98) (by decide +kernel)
theorem dX35_set_146 : decode cX35_set 146 = .ok (.aload_n 0, 1) := dc_42 (by decide +kernel)
theorem dX35_set_147 : decode cX35_set 147 = .ok (.iload_n 3, 1) := dc_29 (by decide +kernel)
theorem dX35_set_148 : decode cX35_set 148 = .ok (.ldc_w 606, 3) := dc_19 (a := 2) (b := 94) (n := 606) (by decide +kernel)
theorem dX35_set_151 : decode cX35_set 151 = .ok (.iload 4, 2) := dc_21 (a := 4) (by decide +kernel)
theorem dX35_set_153 : decode cX35_set 153 = .ok (.iadd, 1) := dc_96 (by decide +kernel)
theorem dX35_set_154 : decode cX35_set 154 = .ok (.iload_n 2, 1) := dc_28 (by decide +kernel)
theorem dX35_set_155 : decode cX35_set 155 = .ok (.invokevirtual 557, 3) := dc_182 (a := 2) (b := 45) (n := 557) (by decide +kernel)
theorem dX35_set_158 : decode cX35_set 158 = .ok (.goto 83, 3) := dc_167 (a := 0) (b := 83) (v := 83) (by decide +kernel)
theorem dX35_set_161 : decode cX35_set 161 = .ok (.aload_n 0, 1) := dc_42 (by decide +kernel)
theorem dX35_set_162 : decode cX35_set 162 = .ok (.iload_n 2, 1) := dc_28 (by decide +kernel)
theorem dX35_set_163 : decode cX35_set 163 = .ok (.invokevirtual 1236, 3) := dc_182 (a := 4) (b := 212) (n := 1236) (by decide +kernel)
theorem dX35_set_166 : decode cX35_set 166 = .ok (.goto 75, 3) := dc_167 (a := 0) (b := 75) (v := 75) (by decide +kernel)
theorem dX35_set_169 : decode cX35_set 169 = .ok (.aload_n 0, 1) := dc_42 (by decide +kernel)
theorem dX35_set_170 : decode cX35_set 170 = .ok (.sipush 255, 3) := dc_17 (a := 0) (b := 255) (v := 255) (by decide +kernel)
theorem dX35_set_173 : decode cX35_set 173 = .ok (.invokevirtual 590, 3) := dc_182 (a := 2) (b := 78) (n := 590) (by decide +kernel)
theorem dX35_set_176 : decode cX35_set 176 = .ok (.istore 5, 2) := dc_54 (a := 5) (by decide +kernel)
theorem dX35_set_178 : decode cX35_set 178 = .ok (.aload_n 0, 1) := dc_42 (by decide +kernel)
theorem dX35_set_179 : decode cX35_set 179 = .ok (.invokevirtual 1233, 3) := dc_182 (a := 4) (b := 209) (n := 1233) (by decide +kernel)
theorem dX35_set_182 : decode cX35_set 182 = .ok (.aload_n 0, 1) := dc_42 (by decide +kernel)
theorem dX35_set_183 : decode cX35_set 183 = .ok (.sipush 1460, 3) := dc_17 (a := 5) (b := 180) (v := 1460) (by decide +kernel)
theorem dX35_set_186 : decode cX35_set 186 = .ok (.iload 5, 2) := dc_21 (a := 5) (by decide +kernel)
theorem dX35_set_188 : decode cX35_set 188 = .ok (.iadd, 1) := dc_96 (by decide +kernel)
theorem dX35_set_189 : decode cX35_set 189 = .ok (.aload_n 0, 1) := dc_42 (by decide +kernel)
theorem dX35_set_190 : decode cX35_set 190 = .ok (.bipush 15, 2) := dc_16 (a := 15) (v := 15) (by decide +kernel)
theorem dX35_set_192 : decode cX35_set 192 = .ok (.invokevirtual 590, 3) := dc_182 (a := 2) (b := 78) (n := 590) (by decide +kernel)
theorem dX35_set_195 : decode cX35_set 195 = .ok (.iload_n 2, 1) := dc_28 (by decide +kernel)
theorem dX35_set_196 : decode cX35_set 196 = .ok (.invokevirtual 477, 3) := dc_182 (a := 1) (b := 221) (n := 477) (by decide +kernel)
theorem dX35_set_199 : decode cX35_set 199 = .ok (.goto 42, 3) := dc_167 (a := 0) (b := 42) (v := 42) (by decide +kernel)
theorem dX35_set_202 : decode cX35_set 202 = .ok (.aload_n 0, 1) := dc_42 (by decide +kernel)
theorem dX35_set_203 : decode cX35_set 203 = .ok (.iload_n 1, 1) := dc_27 (by decide +kernel)
theorem dX35_set_204 : decode cX35_set 204 = .ok (.iload_n 2, 1) := dc_28 (by decide +kernel)
theorem dX35_set_205 : decode cX35_set 205 = .ok (.invokevirtual 1239, 3) := dc_182 (a := 4) (b := 215) (n := 1239) (by decide +kernel)
theorem dX35_set_208 : decode cX35_set 208 = .ok (.goto 33, 3) := dc_167 (a := 0) (b := 33) (v := 33) (by decide +kernel)
theorem dX35_set_211 : decode cX35_set 211 = .ok (.aload_n 0, 1) := dc_42 (by decide +kernel)
theorem dX35_set_212 : decode cX35_set 212 = .ok (.sipush 255, 3) := dc_17 (a := 0) (b := 255) (v := 255) (by decide +kernel)
theorem dX35_set_215 : decode cX35_set 215 = .ok (.invokevirtual 590, 3) := dc_182 (a := 2) (b := 78) (n := 590) (by decide +kernel)
theorem dX35_set_218 : decode cX35_set 218 = .ok (.istore 6, 2) := dc_54 (a := 6) (by decide +kernel)
theorem dX35_set_220 : decode cX35_set 220 = .ok (.aload_n 0, 1) := dc_42 (by decide +kernel)
theorem dX35_set_221 : decode cX35_set 221 = .ok (.invokevirtual 1233, 3) := dc_182 (a := 4) (b := 209) (n := 1233) (by decide +kernel)
theorem dX35_set_224 : decode cX35_set 224 = .ok (.aload_n 0, 1) := dc_42 (by decide +kernel)
theorem dX35_set_225 : decode cX35_set 225 = .ok (.iload 6, 2) := dc_21 (a := 6) (by decide +kernel)
theorem dX35_set_227 : decode cX35_set 227 = .ok (.iconst 0, 1) := dc_3 (by decide +kernel)
theorem dX35_set_228 : decode cX35_set 228 = .ok (.iload_n 2, 1) := dc_28 (by decide +kernel)
theorem dX35_set_229 : decode cX35_set 229 = .ok (.invokevirtual 1221, 3) := dc_182 (a := 4) (b := 197) (n := 1221) (by decide +kernel)
theorem dX35_set_232 : decode cX35_set 232 = .ok (.goto 9, 3) := dc_167 (a := 0) (b := 9) (v := 9) (by decide +kernel)
theorem dX35_set_235 : decode cX35_set 235 = .ok (.aload_n 0, 1) := dc_42 (by decide +kernel)
theorem dX35_set_236 : decode cX35_set 236 = .ok (.iload_n 1, 1) := dc_27 (by decide +kernel)
theorem dX35_set_237 : decode cX35_set 237 = .ok (.iload_n 2, 1) := dc_28 (by decide +kernel)
theorem dX35_set_238 : decode cX35_set 238 = .ok (.invokevirtual 1242, 3) := dc_182 (a := 4) (b := 218) (n := 1242) (by decide +kernel)
theorem dX35_set_241 : decode cX35_set 241 = .ok (.return_, 1) := dc_177 (by decide +kernel)
def fX35_set_b241 (N : Nat) (sE : Nat → Int32 → eH → Option (Unit × eH)) (sL : Nat → Int32 → Int64 → Int64 → eH → Option (Int32 × eH)) (sN : Nat → eH → Option (Int32 × eH))  (h : eH) : Option (Unit × eH) :=
  some ((), h)
theorem pX35_set_b241 {w : eW} {d : Nat} {dr : Nat} (hd : dr + 15 ≤ d + 1) (hdr : 12 ≤ dr) {N : Nat} {sE : Nat → Int32 → eH → Option (Unit × eH)} {sL : Nat → Int32 → Int64 → Int64 → eH → Option (Int32 × eH)} {sN : Nat → eH → Option (Int32 × eH)} (hsE : ∀ a t0 h q, sE a t0 h = some q → wm w dr YX35_expand [.ref a, .int t0] h (e_is (e_rn c_V q))) (hsL : ∀ a t0 t1 t2 h q, sL a t0 t1 t2 h = some q → wm w dr YX35_layBox [.ref a, .int t0, .long t1, .long t2] h (e_is (e_rn c_I q))) (hsN : ∀ a h q, sN a h = some q → wm w dr YX35_number [.ref a] h (e_is (e_rn c_I q)))  {h : eH} {q} (hf : fX35_set_b241 N sE sL sN h = some q) : wp w (d + 1) YX35_set 241 [none, none, none, none, none, none, none] [] h (e_is (e_rn c_V q)) := by
  unfold fX35_set_b241 at hf
  cases hf
  exact w_vret dX35_set_241 rfl rfl
def fX35_set_b107 (N : Nat) (sE : Nat → Int32 → eH → Option (Unit × eH)) (sL : Nat → Int32 → Int64 → Int64 → eH → Option (Int32 × eH)) (sN : Nat → eH → Option (Int32 × eH)) (s0 : Nat) (s1 : Int32) (s2 : Int32) (h : eH) : Option (Unit × eH) :=
  (k_ok 34 h s0).bind fun _ =>
  (fX35_define N sE s0 s1 s2 h).bind fun q2 =>
  fX35_set_b241 N sE sL sN q2.2
theorem pX35_set_b107 {w : eW} {d : Nat} {dr : Nat} (hd : dr + 15 ≤ d + 1) (hdr : 12 ≤ dr) {N : Nat} {sE : Nat → Int32 → eH → Option (Unit × eH)} {sL : Nat → Int32 → Int64 → Int64 → eH → Option (Int32 × eH)} {sN : Nat → eH → Option (Int32 × eH)} (hsE : ∀ a t0 h q, sE a t0 h = some q → wm w dr YX35_expand [.ref a, .int t0] h (e_is (e_rn c_V q))) (hsL : ∀ a t0 t1 t2 h q, sL a t0 t1 t2 h = some q → wm w dr YX35_layBox [.ref a, .int t0, .long t1, .long t2] h (e_is (e_rn c_I q))) (hsN : ∀ a h q, sN a h = some q → wm w dr YX35_number [.ref a] h (e_is (e_rn c_I q))) {s0 : Nat} {s1 : Int32} {s2 : Int32} {h : eH} {q} (hf : fX35_set_b107 N sE sL sN s0 s1 s2 h = some q) : wp w (d + 1) YX35_set 107 [none, none, none, none, none, none, none] [.int s2, .int s1, .ref s0] h (e_is (e_rn c_V q)) := by
  unfold fX35_set_b107 at hf
  obtain ⟨_, b1, hf⟩ := Option.bind_eq_some_iff.mp hf
  refine x_cnV hf (e_stV (Yc := YX35_define) (ci := 34) (av := [.int s1, .int s2]) (st := []) dX35_set_107 q5922 mX35_define rfl (k_ok_some b1).1 (k_ok_some b1).2) mX35_define.2.2.1 mX35_define.2.2.2.2.1 (Nat.le_of_ble_eq_true rfl) (Nat.le_of_ble_eq_true rfl) (fun q hq => pX35_define (by omega) hdr hsE hq) (fun q2 hf => ?_)
  refine w_goto 241 dX35_set_110 (by decide) ?_
  exact (pX35_set_b241 hd hdr hsE hsL hsN hf).to trivial
def fX35_set_b102 (N : Nat) (sE : Nat → Int32 → eH → Option (Unit × eH)) (sL : Nat → Int32 → Int64 → Int64 → eH → Option (Int32 × eH)) (sN : Nat → eH → Option (Int32 × eH)) (s0 : Nat) (s1 : Int32) (h : eH) : Option (Unit × eH) :=
  fX35_set_b107 N sE sL sN s0 s1 (1 : Int32) h
theorem pX35_set_b102 {w : eW} {d : Nat} {dr : Nat} (hd : dr + 15 ≤ d + 1) (hdr : 12 ≤ dr) {N : Nat} {sE : Nat → Int32 → eH → Option (Unit × eH)} {sL : Nat → Int32 → Int64 → Int64 → eH → Option (Int32 × eH)} {sN : Nat → eH → Option (Int32 × eH)} (hsE : ∀ a t0 h q, sE a t0 h = some q → wm w dr YX35_expand [.ref a, .int t0] h (e_is (e_rn c_V q))) (hsL : ∀ a t0 t1 t2 h q, sL a t0 t1 t2 h = some q → wm w dr YX35_layBox [.ref a, .int t0, .long t1, .long t2] h (e_is (e_rn c_I q))) (hsN : ∀ a h q, sN a h = some q → wm w dr YX35_number [.ref a] h (e_is (e_rn c_I q))) {s0 : Nat} {s1 : Int32} {h : eH} {q} (hf : fX35_set_b102 N sE sL sN s0 s1 h = some q) : wp w (d + 1) YX35_set 102 [none, none, none, none, none, none, none] [.int s1, .ref s0] h (e_is (e_rn c_V q)) := by
  unfold fX35_set_b102 at hf
  refine w_iconst dX35_set_102 (v := 1) (by decide) ?_
  refine w_goto 107 dX35_set_103 (by decide) ?_
  exact (pX35_set_b107 hd hdr hsE hsL hsN hf).to trivial
def fX35_set_b86 (N : Nat) (sE : Nat → Int32 → eH → Option (Unit × eH)) (sL : Nat → Int32 → Int64 → Int64 → eH → Option (Int32 × eH)) (sN : Nat → eH → Option (Int32 × eH)) (l1 : Int32) (l2 : Int32) (s0 : Nat) (s1 : Int32) (h : eH) : Option (Unit × eH) :=
  if ¬ l2 = 0 then
    fX35_set_b102 N sE sL sN s0 s1 h
  else
    if l1 = (30 : Int32) then
      fX35_set_b102 N sE sL sN s0 s1 h
    else
      if ¬ l1 = (31 : Int32) then
        fX35_set_b107 N sE sL sN s0 s1 (0 : Int32) h
      else
        fX35_set_b102 N sE sL sN s0 s1 h
theorem pX35_set_b86 {w : eW} {d : Nat} {dr : Nat} (hd : dr + 15 ≤ d + 1) (hdr : 12 ≤ dr) {N : Nat} {sE : Nat → Int32 → eH → Option (Unit × eH)} {sL : Nat → Int32 → Int64 → Int64 → eH → Option (Int32 × eH)} {sN : Nat → eH → Option (Int32 × eH)} (hsE : ∀ a t0 h q, sE a t0 h = some q → wm w dr YX35_expand [.ref a, .int t0] h (e_is (e_rn c_V q))) (hsL : ∀ a t0 t1 t2 h q, sL a t0 t1 t2 h = some q → wm w dr YX35_layBox [.ref a, .int t0, .long t1, .long t2] h (e_is (e_rn c_I q))) (hsN : ∀ a h q, sN a h = some q → wm w dr YX35_number [.ref a] h (e_is (e_rn c_I q))) {l1 : Int32} {l2 : Int32} {s0 : Nat} {s1 : Int32} {h : eH} {q} (hf : fX35_set_b86 N sE sL sN l1 l2 s0 s1 h = some q) : wp w (d + 1) YX35_set 86 [none, some (.int l1), some (.int l2), none, none, none, none] [.int s1, .ref s0] h (e_is (e_rn c_V q)) := by
  unfold fX35_set_b86 at hf
  refine w_iload_n dX35_set_86 rfl rfl ?_
  refine w_if_ne 102 dX35_set_87 (by decide) (fun c1 => ?_) (fun c1 => ?_)
  · replace hf := (if_pos (show ¬ l2 = 0 from c1)).symm.trans hf
    exact (pX35_set_b102 hd hdr hsE hsL hsN hf).to trivial
  · replace hf := (if_neg (show ¬ (¬ l2 = 0) from (fun z => z c1))).symm.trans hf
    refine w_iload_n dX35_set_90 rfl rfl ?_
    refine w_bipush dX35_set_91 (v := 30) (by decide) ?_
    refine w_icmp_eq 102 dX35_set_93 (by decide) (fun c2 => ?_) (fun c2 => ?_)
    · replace hf := (if_pos (show l1 = (30 : Int32) from c2)).symm.trans hf
      exact (pX35_set_b102 hd hdr hsE hsL hsN hf).to trivial
    · replace hf := (if_neg (show ¬ (l1 = (30 : Int32)) from c2)).symm.trans hf
      refine w_iload_n dX35_set_96 rfl rfl ?_
      refine w_bipush dX35_set_97 (v := 31) (by decide) ?_
      refine w_icmp_ne 106 dX35_set_99 (by decide) (fun c3 => ?_) (fun c3 => ?_)
      · replace hf := (if_pos (show ¬ l1 = (31 : Int32) from c3)).symm.trans hf
        refine w_iconst dX35_set_106 (v := 0) (by decide) ?_
        exact (pX35_set_b107 hd hdr hsE hsL hsN hf).to trivial
      · replace hf := (if_neg (show ¬ (¬ l1 = (31 : Int32)) from (fun z => z c3))).symm.trans hf
        exact (pX35_set_b102 hd hdr hsE hsL hsN hf).to trivial
def fX35_set_b81 (N : Nat) (sE : Nat → Int32 → eH → Option (Unit × eH)) (sL : Nat → Int32 → Int64 → Int64 → eH → Option (Int32 × eH)) (sN : Nat → eH → Option (Int32 × eH)) (l1 : Int32) (l2 : Int32) (s0 : Nat) (h : eH) : Option (Unit × eH) :=
  fX35_set_b86 N sE sL sN l1 l2 s0 (1 : Int32) h
theorem pX35_set_b81 {w : eW} {d : Nat} {dr : Nat} (hd : dr + 15 ≤ d + 1) (hdr : 12 ≤ dr) {N : Nat} {sE : Nat → Int32 → eH → Option (Unit × eH)} {sL : Nat → Int32 → Int64 → Int64 → eH → Option (Int32 × eH)} {sN : Nat → eH → Option (Int32 × eH)} (hsE : ∀ a t0 h q, sE a t0 h = some q → wm w dr YX35_expand [.ref a, .int t0] h (e_is (e_rn c_V q))) (hsL : ∀ a t0 t1 t2 h q, sL a t0 t1 t2 h = some q → wm w dr YX35_layBox [.ref a, .int t0, .long t1, .long t2] h (e_is (e_rn c_I q))) (hsN : ∀ a h q, sN a h = some q → wm w dr YX35_number [.ref a] h (e_is (e_rn c_I q))) {l1 : Int32} {l2 : Int32} {s0 : Nat} {h : eH} {q} (hf : fX35_set_b81 N sE sL sN l1 l2 s0 h = some q) : wp w (d + 1) YX35_set 81 [none, some (.int l1), some (.int l2), none, none, none, none] [.ref s0] h (e_is (e_rn c_V q)) := by
  unfold fX35_set_b81 at hf
  refine w_iconst dX35_set_81 (v := 1) (by decide) ?_
  refine w_goto 86 dX35_set_82 (by decide) ?_
  exact (pX35_set_b86 hd hdr hsE hsL hsN hf).to ⟨rfl, rfl, trivial⟩
def fX35_set (N : Nat) (sE : Nat → Int32 → eH → Option (Unit × eH)) (sL : Nat → Int32 → Int64 → Int64 → eH → Option (Int32 × eH)) (sN : Nat → eH → Option (Int32 × eH)) (this : Nat) (p0 : Int32) (p1 : Int32) (h : eH) : Option (Unit × eH) :=
  if p0 = (28 : Int32) then
    if p0 = (29 : Int32) then
      fX35_set_b81 N sE sL sN p0 p1 this h
    else
      if ¬ p0 = (31 : Int32) then
        fX35_set_b86 N sE sL sN p0 p1 this (0 : Int32) h
      else
        fX35_set_b81 N sE sL sN p0 p1 this h
  else
  if p0 = (29 : Int32) then
    if p0 = (29 : Int32) then
      fX35_set_b81 N sE sL sN p0 p1 this h
    else
      if ¬ p0 = (31 : Int32) then
        fX35_set_b86 N sE sL sN p0 p1 this (0 : Int32) h
      else
        fX35_set_b81 N sE sL sN p0 p1 this h
  else
  if p0 = (30 : Int32) then
    if p0 = (29 : Int32) then
      fX35_set_b81 N sE sL sN p0 p1 this h
    else
      if ¬ p0 = (31 : Int32) then
        fX35_set_b86 N sE sL sN p0 p1 this (0 : Int32) h
      else
        fX35_set_b81 N sE sL sN p0 p1 this h
  else
  if p0 = (31 : Int32) then
    if p0 = (29 : Int32) then
      fX35_set_b81 N sE sL sN p0 p1 this h
    else
      if ¬ p0 = (31 : Int32) then
        fX35_set_b86 N sE sL sN p0 p1 this (0 : Int32) h
      else
        fX35_set_b81 N sE sL sN p0 p1 this h
  else
  if p0 = (32 : Int32) then
    (k_ok 34 h this).bind fun _ =>
    (fX35_let N this p1 h).bind fun q15 =>
    fX35_set_b241 N sE sL sN q15.2
  else
  if p0 = (33 : Int32) then
    (k_ok 34 h this).bind fun _ =>
    (fX35_target N this h).bind fun q18 =>
    (k_ok 34 q18.2 this).bind fun _ =>
    (fX35_equals N sE this q18.2).bind fun q20 =>
    (k_ok 34 q20.2 this).bind fun _ =>
    (fX35_small sN this (255 : Int32) q20.2).bind fun q22 =>
    (g_I 34 q22.2 this 46).bind fun x23 =>
    if ¬ x23 = 0 then
      fX35_set_b241 N sE sL sN q22.2
    else
      (k_ok 34 q22.2 this).bind fun _ =>
      (fX35_mean N this q18.1 ((3000000 : Int32) + q22.1) p1 q22.2).bind fun q27 =>
      fX35_set_b241 N sE sL sN q27.2
  else
  if p0 = (34 : Int32) then
    (k_ok 34 h this).bind fun _ =>
    (fX35_font N sE sN this p1 h).bind fun q30 =>
    fX35_set_b241 N sE sL sN q30.2
  else
  if p0 = (35 : Int32) then
    (k_ok 34 h this).bind fun _ =>
    (fX35_small sN this (255 : Int32) h).bind fun q33 =>
    (k_ok 34 q33.2 this).bind fun _ =>
    (fX35_equals N sE this q33.2).bind fun q35 =>
    (k_ok 34 q35.2 this).bind fun _ =>
    (fX35_small sN this (15 : Int32) q35.2).bind fun q37 =>
    (k_ok 34 q37.2 this).bind fun _ =>
    (fX35_setAt N this ((1460 : Int32) + q33.1) q37.1 p1 q37.2).bind fun q39 =>
    fX35_set_b241 N sE sL sN q39.2
  else
  if p0 = (36 : Int32) then
    (k_ok 34 h this).bind fun _ =>
    (fX35_reckon N sE sN this p0 p1 h).bind fun q42 =>
    fX35_set_b241 N sE sL sN q42.2
  else
  if p0 = (37 : Int32) then
    (k_ok 34 h this).bind fun _ =>
    (fX35_reckon N sE sN this p0 p1 h).bind fun q45 =>
    fX35_set_b241 N sE sL sN q45.2
  else
  if p0 = (38 : Int32) then
    (k_ok 34 h this).bind fun _ =>
    (fX35_reckon N sE sN this p0 p1 h).bind fun q48 =>
    fX35_set_b241 N sE sL sN q48.2
  else
  if p0 = (39 : Int32) then
    (k_ok 34 h this).bind fun _ =>
    (fX35_quantity N sE sN this p0 p1 h).bind fun q51 =>
    fX35_set_b241 N sE sL sN q51.2
  else
  if p0 = (40 : Int32) then
    (k_ok 34 h this).bind fun _ =>
    (fX35_small sN this (255 : Int32) h).bind fun q54 =>
    (k_ok 34 q54.2 this).bind fun _ =>
    (fX35_equals N sE this q54.2).bind fun q56 =>
    (k_ok 34 q56.2 this).bind fun _ =>
    (fX35_readBox N sE sL sN this q54.1 (0 : Int32) p1 q56.2).bind fun q58 =>
    fX35_set_b241 N sE sL sN q58.2
  else
  (k_ok 34 h this).bind fun _ =>
  (fX35_quantity N sE sN this p0 p1 h).bind fun q60 =>
  fX35_set_b241 N sE sL sN q60.2
theorem pX35_set {w : eW} {d : Nat} {dr : Nat} (hd : dr + 15 ≤ d) (hdr : 12 ≤ dr) {N : Nat} {sE : Nat → Int32 → eH → Option (Unit × eH)} {sL : Nat → Int32 → Int64 → Int64 → eH → Option (Int32 × eH)} {sN : Nat → eH → Option (Int32 × eH)} (hsE : ∀ a t0 h q, sE a t0 h = some q → wm w dr YX35_expand [.ref a, .int t0] h (e_is (e_rn c_V q))) (hsL : ∀ a t0 t1 t2 h q, sL a t0 t1 t2 h = some q → wm w dr YX35_layBox [.ref a, .int t0, .long t1, .long t2] h (e_is (e_rn c_I q))) (hsN : ∀ a h q, sN a h = some q → wm w dr YX35_number [.ref a] h (e_is (e_rn c_I q))) {this : Nat} {p0 : Int32} {p1 : Int32} {h : eH} {q} (hf : fX35_set N sE sL sN this p0 p1 h = some q) : wm w d YX35_set [.ref this, .int p0, .int p1] h (e_is (e_rn c_V q)) := by
  obtain ⟨d, rfl⟩ : ∃ e, d = e + 1 := ⟨d - 1, by omega⟩
  show wp w (d + 1) YX35_set 0 [some (.ref this), some (.int p0), some (.int p1), none, none, none, none] [] h _
  unfold fX35_set at hf
  refine w_iload_n dX35_set_0 rfl rfl ?_
  by_cases c1 : p0 = (28 : Int32)
  · replace hf := (if_pos c1).symm.trans hf
    refine w_tableIn 68 dX35_set_1 (by rw [c1]; decide) (by rw [c1]; decide) (by rw [c1]; rfl) (by decide) ?_
    refine w_aload_n dX35_set_68 rfl rfl ?_
    refine w_iload_n dX35_set_69 rfl rfl ?_
    refine w_bipush dX35_set_70 (v := 29) (by decide) ?_
    refine w_icmp_eq 81 dX35_set_72 (by decide) (fun c2 => ?_) (fun c2 => ?_)
    · replace hf := (if_pos (show p0 = (29 : Int32) from c2)).symm.trans hf
      exact (pX35_set_b81 hd hdr hsE hsL hsN hf).to ⟨rfl, rfl, trivial⟩
    · replace hf := (if_neg (show ¬ (p0 = (29 : Int32)) from c2)).symm.trans hf
      refine w_iload_n dX35_set_75 rfl rfl ?_
      refine w_bipush dX35_set_76 (v := 31) (by decide) ?_
      refine w_icmp_ne 85 dX35_set_78 (by decide) (fun c3 => ?_) (fun c3 => ?_)
      · replace hf := (if_pos (show ¬ p0 = (31 : Int32) from c3)).symm.trans hf
        refine w_iconst dX35_set_85 (v := 0) (by decide) ?_
        exact (pX35_set_b86 hd hdr hsE hsL hsN hf).to ⟨rfl, rfl, trivial⟩
      · replace hf := (if_neg (show ¬ (¬ p0 = (31 : Int32)) from (fun z => z c3))).symm.trans hf
        exact (pX35_set_b81 hd hdr hsE hsL hsN hf).to ⟨rfl, rfl, trivial⟩
  replace hf := (if_neg c1).symm.trans hf
  by_cases c4 : p0 = (29 : Int32)
  · replace hf := (if_pos c4).symm.trans hf
    refine w_tableIn 68 dX35_set_1 (by rw [c4]; decide) (by rw [c4]; decide) (by rw [c4]; rfl) (by decide) ?_
    refine w_aload_n dX35_set_68 rfl rfl ?_
    refine w_iload_n dX35_set_69 rfl rfl ?_
    refine w_bipush dX35_set_70 (v := 29) (by decide) ?_
    refine w_icmp_eq 81 dX35_set_72 (by decide) (fun c5 => ?_) (fun c5 => ?_)
    · replace hf := (if_pos (show p0 = (29 : Int32) from c5)).symm.trans hf
      exact (pX35_set_b81 hd hdr hsE hsL hsN hf).to ⟨rfl, rfl, trivial⟩
    · replace hf := (if_neg (show ¬ (p0 = (29 : Int32)) from c5)).symm.trans hf
      refine w_iload_n dX35_set_75 rfl rfl ?_
      refine w_bipush dX35_set_76 (v := 31) (by decide) ?_
      refine w_icmp_ne 85 dX35_set_78 (by decide) (fun c6 => ?_) (fun c6 => ?_)
      · replace hf := (if_pos (show ¬ p0 = (31 : Int32) from c6)).symm.trans hf
        refine w_iconst dX35_set_85 (v := 0) (by decide) ?_
        exact (pX35_set_b86 hd hdr hsE hsL hsN hf).to ⟨rfl, rfl, trivial⟩
      · replace hf := (if_neg (show ¬ (¬ p0 = (31 : Int32)) from (fun z => z c6))).symm.trans hf
        exact (pX35_set_b81 hd hdr hsE hsL hsN hf).to ⟨rfl, rfl, trivial⟩
  replace hf := (if_neg c4).symm.trans hf
  by_cases c7 : p0 = (30 : Int32)
  · replace hf := (if_pos c7).symm.trans hf
    refine w_tableIn 68 dX35_set_1 (by rw [c7]; decide) (by rw [c7]; decide) (by rw [c7]; rfl) (by decide) ?_
    refine w_aload_n dX35_set_68 rfl rfl ?_
    refine w_iload_n dX35_set_69 rfl rfl ?_
    refine w_bipush dX35_set_70 (v := 29) (by decide) ?_
    refine w_icmp_eq 81 dX35_set_72 (by decide) (fun c8 => ?_) (fun c8 => ?_)
    · replace hf := (if_pos (show p0 = (29 : Int32) from c8)).symm.trans hf
      exact (pX35_set_b81 hd hdr hsE hsL hsN hf).to ⟨rfl, rfl, trivial⟩
    · replace hf := (if_neg (show ¬ (p0 = (29 : Int32)) from c8)).symm.trans hf
      refine w_iload_n dX35_set_75 rfl rfl ?_
      refine w_bipush dX35_set_76 (v := 31) (by decide) ?_
      refine w_icmp_ne 85 dX35_set_78 (by decide) (fun c9 => ?_) (fun c9 => ?_)
      · replace hf := (if_pos (show ¬ p0 = (31 : Int32) from c9)).symm.trans hf
        refine w_iconst dX35_set_85 (v := 0) (by decide) ?_
        exact (pX35_set_b86 hd hdr hsE hsL hsN hf).to ⟨rfl, rfl, trivial⟩
      · replace hf := (if_neg (show ¬ (¬ p0 = (31 : Int32)) from (fun z => z c9))).symm.trans hf
        exact (pX35_set_b81 hd hdr hsE hsL hsN hf).to ⟨rfl, rfl, trivial⟩
  replace hf := (if_neg c7).symm.trans hf
  by_cases c10 : p0 = (31 : Int32)
  · replace hf := (if_pos c10).symm.trans hf
    refine w_tableIn 68 dX35_set_1 (by rw [c10]; decide) (by rw [c10]; decide) (by rw [c10]; rfl) (by decide) ?_
    refine w_aload_n dX35_set_68 rfl rfl ?_
    refine w_iload_n dX35_set_69 rfl rfl ?_
    refine w_bipush dX35_set_70 (v := 29) (by decide) ?_
    refine w_icmp_eq 81 dX35_set_72 (by decide) (fun c11 => ?_) (fun c11 => ?_)
    · replace hf := (if_pos (show p0 = (29 : Int32) from c11)).symm.trans hf
      exact (pX35_set_b81 hd hdr hsE hsL hsN hf).to ⟨rfl, rfl, trivial⟩
    · replace hf := (if_neg (show ¬ (p0 = (29 : Int32)) from c11)).symm.trans hf
      refine w_iload_n dX35_set_75 rfl rfl ?_
      refine w_bipush dX35_set_76 (v := 31) (by decide) ?_
      refine w_icmp_ne 85 dX35_set_78 (by decide) (fun c12 => ?_) (fun c12 => ?_)
      · replace hf := (if_pos (show ¬ p0 = (31 : Int32) from c12)).symm.trans hf
        refine w_iconst dX35_set_85 (v := 0) (by decide) ?_
        exact (pX35_set_b86 hd hdr hsE hsL hsN hf).to ⟨rfl, rfl, trivial⟩
      · replace hf := (if_neg (show ¬ (¬ p0 = (31 : Int32)) from (fun z => z c12))).symm.trans hf
        exact (pX35_set_b81 hd hdr hsE hsL hsN hf).to ⟨rfl, rfl, trivial⟩
  replace hf := (if_neg c10).symm.trans hf
  by_cases c13 : p0 = (32 : Int32)
  · replace hf := (if_pos c13).symm.trans hf
    refine w_tableIn 113 dX35_set_1 (by rw [c13]; decide) (by rw [c13]; decide) (by rw [c13]; rfl) (by decide) ?_
    refine w_aload_n dX35_set_113 rfl rfl ?_
    refine w_iload_n dX35_set_114 rfl rfl ?_
    obtain ⟨_, b14, hf⟩ := Option.bind_eq_some_iff.mp hf
    refine x_cnV hf (e_stV (Yc := YX35_let) (ci := 34) (av := [.int p1]) (st := []) dX35_set_115 q5934 mX35_let rfl (k_ok_some b14).1 (k_ok_some b14).2) mX35_let.2.2.1 mX35_let.2.2.2.2.1 (Nat.le_of_ble_eq_true rfl) (Nat.le_of_ble_eq_true rfl) (fun q hq => pX35_let (by omega) hq) (fun q15 hf => ?_)
    refine w_goto 241 dX35_set_118 (by decide) ?_
    exact (pX35_set_b241 hd hdr hsE hsL hsN hf).to trivial
  replace hf := (if_neg c13).symm.trans hf
  by_cases c16 : p0 = (33 : Int32)
  · replace hf := (if_pos c16).symm.trans hf
    refine w_tableIn 121 dX35_set_1 (by rw [c16]; decide) (by rw [c16]; decide) (by rw [c16]; rfl) (by decide) ?_
    refine w_aload_n dX35_set_121 rfl rfl ?_
    obtain ⟨_, b17, hf⟩ := Option.bind_eq_some_iff.mp hf
    refine x_cnI hf (e_stV (Yc := YX35_target) (ci := 34) (av := []) (st := []) dX35_set_122 q5926 mX35_target rfl (k_ok_some b17).1 (k_ok_some b17).2) mX35_target.2.2.1 mX35_target.2.2.2.2.1 (Nat.le_of_ble_eq_true rfl) (Nat.le_of_ble_eq_true rfl) (fun q hq => pX35_target (by omega) hq) (fun q18 hf => ?_)
    refine w_istore_n dX35_set_125 rfl (by decide) (ls' := [some (.ref this), some (.int p0), some (.int p1), some (.int q18.1), none, none, none]) rfl ?_
    refine w_aload_n dX35_set_126 rfl rfl ?_
    obtain ⟨_, b19, hf⟩ := Option.bind_eq_some_iff.mp hf
    refine x_cnV hf (e_stV (Yc := YX35_equals) (ci := 34) (av := []) (st := []) dX35_set_127 q5938 mX35_equals rfl (k_ok_some b19).1 (k_ok_some b19).2) mX35_equals.2.2.1 mX35_equals.2.2.2.2.1 (Nat.le_of_ble_eq_true rfl) (Nat.le_of_ble_eq_true rfl) (fun q hq => pX35_equals (by omega) hdr hsE hq) (fun q20 hf => ?_)
    refine w_aload_n dX35_set_130 rfl rfl ?_
    refine w_sipush dX35_set_131 (v := 255) (by decide) ?_
    obtain ⟨_, b21, hf⟩ := Option.bind_eq_some_iff.mp hf
    refine x_cnI hf (e_stV (Yc := YX35_small) (ci := 34) (av := [.int (255 : Int32)]) (st := []) dX35_set_134 q5271 mX35_small rfl (k_ok_some b21).1 (k_ok_some b21).2) mX35_small.2.2.1 mX35_small.2.2.2.2.1 (Nat.le_of_ble_eq_true rfl) (Nat.le_of_ble_eq_true rfl) (fun q hq => pX35_small (by omega) hdr hsN hq) (fun q22 hf => ?_)
    refine w_istore dX35_set_137 (by decide) (ls' := [some (.ref this), some (.int p0), some (.int p1), some (.int q18.1), some (.int q22.1), none, none]) rfl ?_
    refine w_aload_n dX35_set_139 rfl rfl ?_
    obtain ⟨x23, b24, hf⟩ := Option.bind_eq_some_iff.mp hf
    refine GX35_321 b24 dX35_set_140 rfl ?_
    refine w_if_ne 241 dX35_set_143 (by decide) (fun c25 => ?_) (fun c25 => ?_)
    · replace hf := (if_pos (show ¬ x23 = 0 from c25)).symm.trans hf
      exact (pX35_set_b241 hd hdr hsE hsL hsN hf).to trivial
    · replace hf := (if_neg (show ¬ (¬ x23 = 0) from (fun z => z c25))).symm.trans hf
      refine w_aload_n dX35_set_146 rfl rfl ?_
      refine w_iload_n dX35_set_147 rfl rfl ?_
      refine w_ldc_w dX35_set_148 q5265 ?_
      refine w_iload dX35_set_151 rfl ?_
      refine w_iadd dX35_set_153 ?_
      refine w_iload_n dX35_set_154 rfl rfl ?_
      obtain ⟨_, b26, hf⟩ := Option.bind_eq_some_iff.mp hf
      refine x_cnV hf (e_stV (Yc := YX35_mean) (ci := 34) (av := [.int q18.1, .int ((3000000 : Int32) + q22.1), .int p1]) (st := []) dX35_set_155 q5201 mX35_mean rfl (k_ok_some b26).1 (k_ok_some b26).2) mX35_mean.2.2.1 mX35_mean.2.2.2.2.1 (Nat.le_of_ble_eq_true rfl) (Nat.le_of_ble_eq_true rfl) (fun q hq => pX35_mean (by omega) hq) (fun q27 hf => ?_)
      refine w_goto 241 dX35_set_158 (by decide) ?_
      exact (pX35_set_b241 hd hdr hsE hsL hsN hf).to trivial
  replace hf := (if_neg c16).symm.trans hf
  by_cases c28 : p0 = (34 : Int32)
  · replace hf := (if_pos c28).symm.trans hf
    refine w_tableIn 161 dX35_set_1 (by rw [c28]; decide) (by rw [c28]; decide) (by rw [c28]; rfl) (by decide) ?_
    refine w_aload_n dX35_set_161 rfl rfl ?_
    refine w_iload_n dX35_set_162 rfl rfl ?_
    obtain ⟨_, b29, hf⟩ := Option.bind_eq_some_iff.mp hf
    refine x_cnV hf (e_stV (Yc := YX35_font) (ci := 34) (av := [.int p1]) (st := []) dX35_set_163 q5942 mX35_font rfl (k_ok_some b29).1 (k_ok_some b29).2) mX35_font.2.2.1 mX35_font.2.2.2.2.1 (Nat.le_of_ble_eq_true rfl) (Nat.le_of_ble_eq_true rfl) (fun q hq => pX35_font (by omega) hdr hsE hsN hq) (fun q30 hf => ?_)
    refine w_goto 241 dX35_set_166 (by decide) ?_
    exact (pX35_set_b241 hd hdr hsE hsL hsN hf).to trivial
  replace hf := (if_neg c28).symm.trans hf
  by_cases c31 : p0 = (35 : Int32)
  · replace hf := (if_pos c31).symm.trans hf
    refine w_tableIn 169 dX35_set_1 (by rw [c31]; decide) (by rw [c31]; decide) (by rw [c31]; rfl) (by decide) ?_
    refine w_aload_n dX35_set_169 rfl rfl ?_
    refine w_sipush dX35_set_170 (v := 255) (by decide) ?_
    obtain ⟨_, b32, hf⟩ := Option.bind_eq_some_iff.mp hf
    refine x_cnI hf (e_stV (Yc := YX35_small) (ci := 34) (av := [.int (255 : Int32)]) (st := []) dX35_set_173 q5271 mX35_small rfl (k_ok_some b32).1 (k_ok_some b32).2) mX35_small.2.2.1 mX35_small.2.2.2.2.1 (Nat.le_of_ble_eq_true rfl) (Nat.le_of_ble_eq_true rfl) (fun q hq => pX35_small (by omega) hdr hsN hq) (fun q33 hf => ?_)
    refine w_istore dX35_set_176 (by decide) (ls' := [some (.ref this), some (.int p0), some (.int p1), none, none, some (.int q33.1), none]) rfl ?_
    refine w_aload_n dX35_set_178 rfl rfl ?_
    obtain ⟨_, b34, hf⟩ := Option.bind_eq_some_iff.mp hf
    refine x_cnV hf (e_stV (Yc := YX35_equals) (ci := 34) (av := []) (st := []) dX35_set_179 q5938 mX35_equals rfl (k_ok_some b34).1 (k_ok_some b34).2) mX35_equals.2.2.1 mX35_equals.2.2.2.2.1 (Nat.le_of_ble_eq_true rfl) (Nat.le_of_ble_eq_true rfl) (fun q hq => pX35_equals (by omega) hdr hsE hq) (fun q35 hf => ?_)
    refine w_aload_n dX35_set_182 rfl rfl ?_
    refine w_sipush dX35_set_183 (v := 1460) (by decide) ?_
    refine w_iload dX35_set_186 rfl ?_
    refine w_iadd dX35_set_188 ?_
    refine w_aload_n dX35_set_189 rfl rfl ?_
    refine w_bipush dX35_set_190 (v := 15) (by decide) ?_
    obtain ⟨_, b36, hf⟩ := Option.bind_eq_some_iff.mp hf
    refine x_cnI hf (e_stV (Yc := YX35_small) (ci := 34) (av := [.int (15 : Int32)]) (st := [.int ((1460 : Int32) + q33.1), .ref this]) dX35_set_192 q5271 mX35_small rfl (k_ok_some b36).1 (k_ok_some b36).2) mX35_small.2.2.1 mX35_small.2.2.2.2.1 (Nat.le_of_ble_eq_true rfl) (Nat.le_of_ble_eq_true rfl) (fun q hq => pX35_small (by omega) hdr hsN hq) (fun q37 hf => ?_)
    refine w_iload_n dX35_set_195 rfl rfl ?_
    obtain ⟨_, b38, hf⟩ := Option.bind_eq_some_iff.mp hf
    refine x_cnV hf (e_stV (Yc := YX35_setAt) (ci := 34) (av := [.int ((1460 : Int32) + q33.1), .int q37.1, .int p1]) (st := []) dX35_set_196 q5205 mX35_setAt rfl (k_ok_some b38).1 (k_ok_some b38).2) mX35_setAt.2.2.1 mX35_setAt.2.2.2.2.1 (Nat.le_of_ble_eq_true rfl) (Nat.le_of_ble_eq_true rfl) (fun q hq => pX35_setAt (by omega) hq) (fun q39 hf => ?_)
    refine w_goto 241 dX35_set_199 (by decide) ?_
    exact (pX35_set_b241 hd hdr hsE hsL hsN hf).to trivial
  replace hf := (if_neg c31).symm.trans hf
  by_cases c40 : p0 = (36 : Int32)
  · replace hf := (if_pos c40).symm.trans hf
    refine w_tableIn 202 dX35_set_1 (by rw [c40]; decide) (by rw [c40]; decide) (by rw [c40]; rfl) (by decide) ?_
    refine w_aload_n dX35_set_202 rfl rfl ?_
    refine w_iload_n dX35_set_203 rfl rfl ?_
    refine w_iload_n dX35_set_204 rfl rfl ?_
    obtain ⟨_, b41, hf⟩ := Option.bind_eq_some_iff.mp hf
    refine x_cnV hf (e_stV (Yc := YX35_reckon) (ci := 34) (av := [.int p0, .int p1]) (st := []) dX35_set_205 q5960 mX35_reckon rfl (k_ok_some b41).1 (k_ok_some b41).2) mX35_reckon.2.2.1 mX35_reckon.2.2.2.2.1 (Nat.le_of_ble_eq_true rfl) (Nat.le_of_ble_eq_true rfl) (fun q hq => pX35_reckon (by omega) hdr hsE hsN hq) (fun q42 hf => ?_)
    refine w_goto 241 dX35_set_208 (by decide) ?_
    exact (pX35_set_b241 hd hdr hsE hsL hsN hf).to trivial
  replace hf := (if_neg c40).symm.trans hf
  by_cases c43 : p0 = (37 : Int32)
  · replace hf := (if_pos c43).symm.trans hf
    refine w_tableIn 202 dX35_set_1 (by rw [c43]; decide) (by rw [c43]; decide) (by rw [c43]; rfl) (by decide) ?_
    refine w_aload_n dX35_set_202 rfl rfl ?_
    refine w_iload_n dX35_set_203 rfl rfl ?_
    refine w_iload_n dX35_set_204 rfl rfl ?_
    obtain ⟨_, b44, hf⟩ := Option.bind_eq_some_iff.mp hf
    refine x_cnV hf (e_stV (Yc := YX35_reckon) (ci := 34) (av := [.int p0, .int p1]) (st := []) dX35_set_205 q5960 mX35_reckon rfl (k_ok_some b44).1 (k_ok_some b44).2) mX35_reckon.2.2.1 mX35_reckon.2.2.2.2.1 (Nat.le_of_ble_eq_true rfl) (Nat.le_of_ble_eq_true rfl) (fun q hq => pX35_reckon (by omega) hdr hsE hsN hq) (fun q45 hf => ?_)
    refine w_goto 241 dX35_set_208 (by decide) ?_
    exact (pX35_set_b241 hd hdr hsE hsL hsN hf).to trivial
  replace hf := (if_neg c43).symm.trans hf
  by_cases c46 : p0 = (38 : Int32)
  · replace hf := (if_pos c46).symm.trans hf
    refine w_tableIn 202 dX35_set_1 (by rw [c46]; decide) (by rw [c46]; decide) (by rw [c46]; rfl) (by decide) ?_
    refine w_aload_n dX35_set_202 rfl rfl ?_
    refine w_iload_n dX35_set_203 rfl rfl ?_
    refine w_iload_n dX35_set_204 rfl rfl ?_
    obtain ⟨_, b47, hf⟩ := Option.bind_eq_some_iff.mp hf
    refine x_cnV hf (e_stV (Yc := YX35_reckon) (ci := 34) (av := [.int p0, .int p1]) (st := []) dX35_set_205 q5960 mX35_reckon rfl (k_ok_some b47).1 (k_ok_some b47).2) mX35_reckon.2.2.1 mX35_reckon.2.2.2.2.1 (Nat.le_of_ble_eq_true rfl) (Nat.le_of_ble_eq_true rfl) (fun q hq => pX35_reckon (by omega) hdr hsE hsN hq) (fun q48 hf => ?_)
    refine w_goto 241 dX35_set_208 (by decide) ?_
    exact (pX35_set_b241 hd hdr hsE hsL hsN hf).to trivial
  replace hf := (if_neg c46).symm.trans hf
  by_cases c49 : p0 = (39 : Int32)
  · replace hf := (if_pos c49).symm.trans hf
    refine w_tableIn 235 dX35_set_1 (by rw [c49]; decide) (by rw [c49]; decide) (by rw [c49]; rfl) (by decide) ?_
    refine w_aload_n dX35_set_235 rfl rfl ?_
    refine w_iload_n dX35_set_236 rfl rfl ?_
    refine w_iload_n dX35_set_237 rfl rfl ?_
    obtain ⟨_, b50, hf⟩ := Option.bind_eq_some_iff.mp hf
    refine x_cnV hf (e_stV (Yc := YX35_quantity) (ci := 34) (av := [.int p0, .int p1]) (st := []) dX35_set_238 q5997 mX35_quantity rfl (k_ok_some b50).1 (k_ok_some b50).2) mX35_quantity.2.2.1 mX35_quantity.2.2.2.2.1 (Nat.le_of_ble_eq_true rfl) (Nat.le_of_ble_eq_true rfl) (fun q hq => pX35_quantity (by omega) hdr hsE hsN hq) (fun q51 hf => ?_)
    exact (pX35_set_b241 hd hdr hsE hsL hsN hf).to trivial
  replace hf := (if_neg c49).symm.trans hf
  by_cases c52 : p0 = (40 : Int32)
  · replace hf := (if_pos c52).symm.trans hf
    refine w_tableIn 211 dX35_set_1 (by rw [c52]; decide) (by rw [c52]; decide) (by rw [c52]; rfl) (by decide) ?_
    refine w_aload_n dX35_set_211 rfl rfl ?_
    refine w_sipush dX35_set_212 (v := 255) (by decide) ?_
    obtain ⟨_, b53, hf⟩ := Option.bind_eq_some_iff.mp hf
    refine x_cnI hf (e_stV (Yc := YX35_small) (ci := 34) (av := [.int (255 : Int32)]) (st := []) dX35_set_215 q5271 mX35_small rfl (k_ok_some b53).1 (k_ok_some b53).2) mX35_small.2.2.1 mX35_small.2.2.2.2.1 (Nat.le_of_ble_eq_true rfl) (Nat.le_of_ble_eq_true rfl) (fun q hq => pX35_small (by omega) hdr hsN hq) (fun q54 hf => ?_)
    refine w_istore dX35_set_218 (by decide) (ls' := [some (.ref this), some (.int p0), some (.int p1), none, none, none, some (.int q54.1)]) rfl ?_
    refine w_aload_n dX35_set_220 rfl rfl ?_
    obtain ⟨_, b55, hf⟩ := Option.bind_eq_some_iff.mp hf
    refine x_cnV hf (e_stV (Yc := YX35_equals) (ci := 34) (av := []) (st := []) dX35_set_221 q5938 mX35_equals rfl (k_ok_some b55).1 (k_ok_some b55).2) mX35_equals.2.2.1 mX35_equals.2.2.2.2.1 (Nat.le_of_ble_eq_true rfl) (Nat.le_of_ble_eq_true rfl) (fun q hq => pX35_equals (by omega) hdr hsE hq) (fun q56 hf => ?_)
    refine w_aload_n dX35_set_224 rfl rfl ?_
    refine w_iload dX35_set_225 rfl ?_
    refine w_iconst dX35_set_227 (v := 0) (by decide) ?_
    refine w_iload_n dX35_set_228 rfl rfl ?_
    obtain ⟨_, b57, hf⟩ := Option.bind_eq_some_iff.mp hf
    refine x_cnV hf (e_stV (Yc := YX35_readBox) (ci := 34) (av := [.int q54.1, .int (0 : Int32), .int p1]) (st := []) dX35_set_229 q5983 mX35_readBox rfl (k_ok_some b57).1 (k_ok_some b57).2) mX35_readBox.2.2.1 mX35_readBox.2.2.2.2.1 (Nat.le_of_ble_eq_true rfl) (Nat.le_of_ble_eq_true rfl) (fun q hq => pX35_readBox (by omega) hdr hsE hsL hsN hq) (fun q58 hf => ?_)
    refine w_goto 241 dX35_set_232 (by decide) ?_
    exact (pX35_set_b241 hd hdr hsE hsL hsN hf).to trivial
  replace hf := (if_neg c52).symm.trans hf
  refine w_tableOut 235 dX35_set_1 (by have n0 := sw_ne c1 (by decide : (28 : Int32).toInt = 28); have n1 := sw_ne c4 (by decide : (29 : Int32).toInt = 29); have n2 := sw_ne c7 (by decide : (30 : Int32).toInt = 30); have n3 := sw_ne c10 (by decide : (31 : Int32).toInt = 31); have n4 := sw_ne c13 (by decide : (32 : Int32).toInt = 32); have n5 := sw_ne c16 (by decide : (33 : Int32).toInt = 33); have n6 := sw_ne c28 (by decide : (34 : Int32).toInt = 34); have n7 := sw_ne c31 (by decide : (35 : Int32).toInt = 35); have n8 := sw_ne c40 (by decide : (36 : Int32).toInt = 36); have n9 := sw_ne c43 (by decide : (37 : Int32).toInt = 37); have n10 := sw_ne c46 (by decide : (38 : Int32).toInt = 38); have n11 := sw_ne c49 (by decide : (39 : Int32).toInt = 39); have n12 := sw_ne c52 (by decide : (40 : Int32).toInt = 40); omega) (by decide) ?_
  refine w_aload_n dX35_set_235 rfl rfl ?_
  refine w_iload_n dX35_set_236 rfl rfl ?_
  refine w_iload_n dX35_set_237 rfl rfl ?_
  obtain ⟨_, b59, hf⟩ := Option.bind_eq_some_iff.mp hf
  refine x_cnV hf (e_stV (Yc := YX35_quantity) (ci := 34) (av := [.int p0, .int p1]) (st := []) dX35_set_238 q5997 mX35_quantity rfl (k_ok_some b59).1 (k_ok_some b59).2) mX35_quantity.2.2.1 mX35_quantity.2.2.2.2.1 (Nat.le_of_ble_eq_true rfl) (Nat.le_of_ble_eq_true rfl) (fun q hq => pX35_quantity (by omega) hdr hsE hsN hq) (fun q60 hf => ?_)
  exact (pX35_set_b241 hd hdr hsE hsL hsN hf).to trivial
abbrev cX35_prefixed : ByteArray := prog_37_method_185_code
def yX35_prefixed : MethodName := ⟨RX35, "prefixed", "()V"⟩
def YX35_prefixed : eY := (yX35_prefixed, cX35_prefixed, 2, none, [])
theorem mX35_prefixed : e_mv YX35_prefixed RX35 0 := ⟨q5909, qs396, q5910, by decide, by decide +kernel, (e_sig (by decide +kernel))⟩
theorem dX35_prefixed_0 : decode cX35_prefixed 0 = .ok (.bipush 39, 2) := dc_16 (a := 39) (v := 39) (by decide +kernel)
theorem dX35_prefixed_2 : decode cX35_prefixed 2 = .ok (.istore_n 1, 1) := dc_60 (by decide +kernel)
theorem dX35_prefixed_3 : decode cX35_prefixed 3 = .ok (.iload_n 1, 1) := dc_27 (by decide +kernel)
theorem dX35_prefixed_4 : decode cX35_prefixed 4 = .ok (.bipush 39, 2) := dc_16 (a := 39) (v := 39) (by decide +kernel)
theorem dX35_prefixed_6 : decode cX35_prefixed 6 = .ok (.if_icmp .ne 22, 3) := dc_160 (a := 0) (b := 22) (v := 22) (by decide +kernel)
theorem dX35_prefixed_9 : decode cX35_prefixed 9 = .ok (.aload_n 0, 1) := dc_42 (by decide +kernel)
theorem dX35_prefixed_10 : decode cX35_prefixed 10 = .ok (.getfield 321, 3) := dc_180 (a := 1) (b := 65) (n := 321) (by decide +kernel)
theorem dX35_prefixed_13 : decode cX35_prefixed 13 = .ok (.ifCond .ne 15, 3) := dc_154 (a := 0) (b := 15) (v := 15) (by decide +kernel)
theorem dX35_prefixed_16 : decode cX35_prefixed 16 = .ok (.aload_n 0, 1) := dc_42 (by decide +kernel)
theorem dX35_prefixed_17 : decode cX35_prefixed 17 = .ok (.aload_n 0, 1) := dc_42 (by decide +kernel)
theorem dX35_prefixed_18 : decode cX35_prefixed 18 = .ok (.invokevirtual 1143, 3) := dc_182 (a := 4) (b := 119) (n := 1143) (by decide +kernel)
theorem dX35_prefixed_21 : decode cX35_prefixed 21 = .ok (.invokevirtual 621, 3) := dc_182 (a := 2) (b := 109) (n := 621) (by decide +kernel)
theorem dX35_prefixed_24 : decode cX35_prefixed 24 = .ok (.istore_n 1, 1) := dc_60 (by decide +kernel)
theorem dX35_prefixed_25 : decode cX35_prefixed 25 = .ok (.goto (-22), 3) := dc_167 (a := 255) (b := 234) (v := -22) (by decide +kernel)
theorem dX35_prefixed_28 : decode cX35_prefixed 28 = .ok (.aload_n 0, 1) := dc_42 (by decide +kernel)
theorem dX35_prefixed_29 : decode cX35_prefixed 29 = .ok (.getfield 321, 3) := dc_180 (a := 1) (b := 65) (n := 321) (by decide +kernel)
theorem dX35_prefixed_32 : decode cX35_prefixed 32 = .ok (.ifCond .le 4, 3) := dc_158 (a := 0) (b := 4) (v := 4) (by decide +kernel)
theorem dX35_prefixed_35 : decode cX35_prefixed 35 = .ok (.return_, 1) := dc_177 (by decide +kernel)
theorem dX35_prefixed_36 : decode cX35_prefixed 36 = .ok (.iload_n 1, 1) := dc_27 (by decide +kernel)
theorem dX35_prefixed_37 : decode cX35_prefixed 37 = .ok (.invokestatic 1224, 3) := dc_184 (a := 4) (b := 200) (n := 1224) (by decide +kernel)
theorem dX35_prefixed_40 : decode cX35_prefixed 40 = .ok (.ifCond .eq 12, 3) := dc_153 (a := 0) (b := 12) (v := 12) (by decide +kernel)
theorem dX35_prefixed_43 : decode cX35_prefixed 43 = .ok (.aload_n 0, 1) := dc_42 (by decide +kernel)
theorem dX35_prefixed_44 : decode cX35_prefixed 44 = .ok (.iload_n 1, 1) := dc_27 (by decide +kernel)
theorem dX35_prefixed_45 : decode cX35_prefixed 45 = .ok (.iconst 1, 1) := dc_4 (by decide +kernel)
theorem dX35_prefixed_46 : decode cX35_prefixed 46 = .ok (.invokevirtual 1181, 3) := dc_182 (a := 4) (b := 157) (n := 1181) (by decide +kernel)
theorem dX35_prefixed_49 : decode cX35_prefixed 49 = .ok (.goto 9, 3) := dc_167 (a := 0) (b := 9) (v := 9) (by decide +kernel)
theorem dX35_prefixed_52 : decode cX35_prefixed 52 = .ok (.aload_n 0, 1) := dc_42 (by decide +kernel)
theorem dX35_prefixed_53 : decode cX35_prefixed 53 = .ok (.bipush 6, 2) := dc_16 (a := 6) (v := 6) (by decide +kernel)
theorem dX35_prefixed_55 : decode cX35_prefixed 55 = .ok (.invokevirtual 428, 3) := dc_182 (a := 1) (b := 172) (n := 428) (by decide +kernel)
theorem dX35_prefixed_58 : decode cX35_prefixed 58 = .ok (.return_, 1) := dc_177 (by decide +kernel)
def fX35_prefixed_b58 (N : Nat) (sE : Nat → Int32 → eH → Option (Unit × eH)) (sL : Nat → Int32 → Int64 → Int64 → eH → Option (Int32 × eH)) (sN : Nat → eH → Option (Int32 × eH))  (h : eH) : Option (Unit × eH) :=
  some ((), h)
theorem pX35_prefixed_b58 {w : eW} {d : Nat} {dr : Nat} (hd : dr + 16 ≤ d + 1) (hdr : 12 ≤ dr) {N : Nat} {sE : Nat → Int32 → eH → Option (Unit × eH)} {sL : Nat → Int32 → Int64 → Int64 → eH → Option (Int32 × eH)} {sN : Nat → eH → Option (Int32 × eH)} (hsE : ∀ a t0 h q, sE a t0 h = some q → wm w dr YX35_expand [.ref a, .int t0] h (e_is (e_rn c_V q))) (hsL : ∀ a t0 t1 t2 h q, sL a t0 t1 t2 h = some q → wm w dr YX35_layBox [.ref a, .int t0, .long t1, .long t2] h (e_is (e_rn c_I q))) (hsN : ∀ a h q, sN a h = some q → wm w dr YX35_number [.ref a] h (e_is (e_rn c_I q)))  {h : eH} {q} (hf : fX35_prefixed_b58 N sE sL sN h = some q) : wp w (d + 1) YX35_prefixed 58 [none, none] [] h (e_is (e_rn c_V q)) := by
  unfold fX35_prefixed_b58 at hf
  cases hf
  exact w_vret dX35_prefixed_58 rfl rfl
def fX35_prefixed_b28 (N : Nat) (sE : Nat → Int32 → eH → Option (Unit × eH)) (sL : Nat → Int32 → Int64 → Int64 → eH → Option (Int32 × eH)) (sN : Nat → eH → Option (Int32 × eH)) (l0 : Nat) (l1 : Int32) (h : eH) : Option (Unit × eH) :=
  (g_I 34 h l0 46).bind fun x1 =>
  if x1 ≤ 0 then
    (fX35_isSettable l1 h).bind fun q4 =>
    if q4.1 = 0 then
      (k_ok 34 q4.2 l0).bind fun _ =>
      (fX35_fail l0 (6 : Int32) q4.2).bind fun q7 =>
      fX35_prefixed_b58 N sE sL sN q7.2
    else
      (k_ok 34 q4.2 l0).bind fun _ =>
      (fX35_set N sE sL sN l0 l1 (1 : Int32) q4.2).bind fun q9 =>
      fX35_prefixed_b58 N sE sL sN q9.2
  else
    some ((), h)
theorem pX35_prefixed_b28 {w : eW} {d : Nat} {dr : Nat} (hd : dr + 16 ≤ d + 1) (hdr : 12 ≤ dr) {N : Nat} {sE : Nat → Int32 → eH → Option (Unit × eH)} {sL : Nat → Int32 → Int64 → Int64 → eH → Option (Int32 × eH)} {sN : Nat → eH → Option (Int32 × eH)} (hsE : ∀ a t0 h q, sE a t0 h = some q → wm w dr YX35_expand [.ref a, .int t0] h (e_is (e_rn c_V q))) (hsL : ∀ a t0 t1 t2 h q, sL a t0 t1 t2 h = some q → wm w dr YX35_layBox [.ref a, .int t0, .long t1, .long t2] h (e_is (e_rn c_I q))) (hsN : ∀ a h q, sN a h = some q → wm w dr YX35_number [.ref a] h (e_is (e_rn c_I q))) {l0 : Nat} {l1 : Int32} {h : eH} {q} (hf : fX35_prefixed_b28 N sE sL sN l0 l1 h = some q) : wp w (d + 1) YX35_prefixed 28 [some (.ref l0), some (.int l1)] [] h (e_is (e_rn c_V q)) := by
  unfold fX35_prefixed_b28 at hf
  refine w_aload_n dX35_prefixed_28 rfl rfl ?_
  obtain ⟨x1, b2, hf⟩ := Option.bind_eq_some_iff.mp hf
  refine GX35_321 b2 dX35_prefixed_29 rfl ?_
  refine w_if_le 36 dX35_prefixed_32 (by decide) (fun c3 => ?_) (fun c3 => ?_)
  · replace hf := (if_pos (show x1 ≤ 0 from c3)).symm.trans hf
    refine w_iload_n dX35_prefixed_36 rfl rfl ?_
    refine x_cnI hf (e_stS (Yc := YX35_isSettable) (av := [.int l1]) (st := []) dX35_prefixed_37 q5915 mX35_isSettable) mX35_isSettable.2.2.1 mX35_isSettable.2.2.2.2.1 (Nat.le_of_ble_eq_true rfl) (Nat.le_of_ble_eq_true rfl) (fun q hq => pX35_isSettable (by omega) hq) (fun q4 hf => ?_)
    refine w_if_eq 52 dX35_prefixed_40 (by decide) (fun c5 => ?_) (fun c5 => ?_)
    · replace hf := (if_pos (show q4.1 = 0 from c5)).symm.trans hf
      refine w_aload_n dX35_prefixed_52 rfl rfl ?_
      refine w_bipush dX35_prefixed_53 (v := 6) (by decide) ?_
      obtain ⟨_, b6, hf⟩ := Option.bind_eq_some_iff.mp hf
      refine x_cnV hf (e_stV (Yc := YX35_fail) (ci := 34) (av := [.int (6 : Int32)]) (st := []) dX35_prefixed_55 q5109 mX35_fail rfl (k_ok_some b6).1 (k_ok_some b6).2) mX35_fail.2.2.1 mX35_fail.2.2.2.2.1 (Nat.le_of_ble_eq_true rfl) (Nat.le_of_ble_eq_true rfl) (fun q hq => pX35_fail (by omega) hq) (fun q7 hf => ?_)
      exact (pX35_prefixed_b58 hd hdr hsE hsL hsN hf).to trivial
    · replace hf := (if_neg (show ¬ (q4.1 = 0) from c5)).symm.trans hf
      refine w_aload_n dX35_prefixed_43 rfl rfl ?_
      refine w_iload_n dX35_prefixed_44 rfl rfl ?_
      refine w_iconst dX35_prefixed_45 (v := 1) (by decide) ?_
      obtain ⟨_, b8, hf⟩ := Option.bind_eq_some_iff.mp hf
      refine x_cnV hf (e_stV (Yc := YX35_set) (ci := 34) (av := [.int l1, .int (1 : Int32)]) (st := []) dX35_prefixed_46 q5918 mX35_set rfl (k_ok_some b8).1 (k_ok_some b8).2) mX35_set.2.2.1 mX35_set.2.2.2.2.1 (Nat.le_of_ble_eq_true rfl) (Nat.le_of_ble_eq_true rfl) (fun q hq => pX35_set (by omega) hdr hsE hsL hsN hq) (fun q9 hf => ?_)
      refine w_goto 58 dX35_prefixed_49 (by decide) ?_
      exact (pX35_prefixed_b58 hd hdr hsE hsL hsN hf).to trivial
  · replace hf := (if_neg (show ¬ (x1 ≤ 0) from c3)).symm.trans hf
    cases hf
    exact w_vret dX35_prefixed_35 rfl rfl
def fX35_prefixed_b3 (N : Nat) (sE : Nat → Int32 → eH → Option (Unit × eH)) (sL : Nat → Int32 → Int64 → Int64 → eH → Option (Int32 × eH)) (sN : Nat → eH → Option (Int32 × eH)) : Nat → Nat → Int32 → eH → Option (Unit × eH)
  | 0, _, _, _ => none
  | n + 1, l0, l1, h =>
    if ¬ l1 = (39 : Int32) then
      fX35_prefixed_b28 N sE sL sN l0 l1 h
    else
      (g_I 34 h l0 46).bind fun x2 =>
      if ¬ x2 = 0 then
        fX35_prefixed_b28 N sE sL sN l0 l1 h
      else
        (k_ok 34 h l0).bind fun _ =>
        (fX35_needSolid N sE l0 h).bind fun q6 =>
        (k_ok 34 q6.2 l0).bind fun _ =>
        (fX35_primitiveOf l0 q6.1 q6.2).bind fun q8 =>
        fX35_prefixed_b3 N sE sL sN n l0 q8.1 q8.2
theorem pX35_prefixed_b3 {w : eW} {d : Nat} {dr : Nat} (hd : dr + 16 ≤ d + 1) (hdr : 12 ≤ dr) {N : Nat} {sE : Nat → Int32 → eH → Option (Unit × eH)} {sL : Nat → Int32 → Int64 → Int64 → eH → Option (Int32 × eH)} {sN : Nat → eH → Option (Int32 × eH)} (hsE : ∀ a t0 h q, sE a t0 h = some q → wm w dr YX35_expand [.ref a, .int t0] h (e_is (e_rn c_V q))) (hsL : ∀ a t0 t1 t2 h q, sL a t0 t1 t2 h = some q → wm w dr YX35_layBox [.ref a, .int t0, .long t1, .long t2] h (e_is (e_rn c_I q))) (hsN : ∀ a h q, sN a h = some q → wm w dr YX35_number [.ref a] h (e_is (e_rn c_I q))) : ∀ (n : Nat) l0 l1 h q, fX35_prefixed_b3 N sE sL sN n l0 l1 h = some q → wp w (d + 1) YX35_prefixed 3 [some (.ref l0), some (.int l1)] [] h (e_is (e_rn c_V q)) := by
  intro n
  induction n with
  | zero => intro l0 l1 h q hf; simp [fX35_prefixed_b3] at hf
  | succ n ih =>
    intro l0 l1 h q hf
    rw [fX35_prefixed_b3] at hf
    refine w_iload_n dX35_prefixed_3 rfl rfl ?_
    refine w_bipush dX35_prefixed_4 (v := 39) (by decide) ?_
    refine w_icmp_ne 28 dX35_prefixed_6 (by decide) (fun c1 => ?_) (fun c1 => ?_)
    · replace hf := (if_pos (show ¬ l1 = (39 : Int32) from c1)).symm.trans hf
      exact (pX35_prefixed_b28 hd hdr hsE hsL hsN hf).to ⟨rfl, rfl, trivial⟩
    · replace hf := (if_neg (show ¬ (¬ l1 = (39 : Int32)) from (fun z => z c1))).symm.trans hf
      refine w_aload_n dX35_prefixed_9 rfl rfl ?_
      obtain ⟨x2, b3, hf⟩ := Option.bind_eq_some_iff.mp hf
      refine GX35_321 b3 dX35_prefixed_10 rfl ?_
      refine w_if_ne 28 dX35_prefixed_13 (by decide) (fun c4 => ?_) (fun c4 => ?_)
      · replace hf := (if_pos (show ¬ x2 = 0 from c4)).symm.trans hf
        exact (pX35_prefixed_b28 hd hdr hsE hsL hsN hf).to ⟨rfl, rfl, trivial⟩
      · replace hf := (if_neg (show ¬ (¬ x2 = 0) from (fun z => z c4))).symm.trans hf
        refine w_aload_n dX35_prefixed_16 rfl rfl ?_
        refine w_aload_n dX35_prefixed_17 rfl rfl ?_
        obtain ⟨_, b5, hf⟩ := Option.bind_eq_some_iff.mp hf
        refine x_cnI hf (e_stV (Yc := YX35_needSolid) (ci := 34) (av := []) (st := [.ref l0]) dX35_prefixed_18 q5911 mX35_needSolid rfl (k_ok_some b5).1 (k_ok_some b5).2) mX35_needSolid.2.2.1 mX35_needSolid.2.2.2.2.1 (Nat.le_of_ble_eq_true rfl) (Nat.le_of_ble_eq_true rfl) (fun q hq => pX35_needSolid (by omega) hdr hsE hq) (fun q6 hf => ?_)
        obtain ⟨_, b7, hf⟩ := Option.bind_eq_some_iff.mp hf
        refine x_cnI hf (e_stV (Yc := YX35_primitiveOf) (ci := 34) (av := [.int q6.1]) (st := []) dX35_prefixed_21 q5254 mX35_primitiveOf rfl (k_ok_some b7).1 (k_ok_some b7).2) mX35_primitiveOf.2.2.1 mX35_primitiveOf.2.2.2.2.1 (Nat.le_of_ble_eq_true rfl) (Nat.le_of_ble_eq_true rfl) (fun q hq => pX35_primitiveOf (by omega) hq) (fun q8 hf => ?_)
        refine w_istore_n dX35_prefixed_24 rfl (by decide) (ls' := [some (.ref l0), some (.int q8.1)]) rfl ?_
        refine w_goto 3 dX35_prefixed_25 (by decide) ?_
        exact (ih _ _ _ _ hf).to ⟨rfl, rfl, trivial⟩
def fX35_prefixed (N : Nat) (sE : Nat → Int32 → eH → Option (Unit × eH)) (sL : Nat → Int32 → Int64 → Int64 → eH → Option (Int32 × eH)) (sN : Nat → eH → Option (Int32 × eH)) (this : Nat) (h : eH) : Option (Unit × eH) :=
  fX35_prefixed_b3 N sE sL sN N this (39 : Int32) h
theorem pX35_prefixed {w : eW} {d : Nat} {dr : Nat} (hd : dr + 16 ≤ d) (hdr : 12 ≤ dr) {N : Nat} {sE : Nat → Int32 → eH → Option (Unit × eH)} {sL : Nat → Int32 → Int64 → Int64 → eH → Option (Int32 × eH)} {sN : Nat → eH → Option (Int32 × eH)} (hsE : ∀ a t0 h q, sE a t0 h = some q → wm w dr YX35_expand [.ref a, .int t0] h (e_is (e_rn c_V q))) (hsL : ∀ a t0 t1 t2 h q, sL a t0 t1 t2 h = some q → wm w dr YX35_layBox [.ref a, .int t0, .long t1, .long t2] h (e_is (e_rn c_I q))) (hsN : ∀ a h q, sN a h = some q → wm w dr YX35_number [.ref a] h (e_is (e_rn c_I q))) {this : Nat} {h : eH} {q} (hf : fX35_prefixed N sE sL sN this h = some q) : wm w d YX35_prefixed [.ref this] h (e_is (e_rn c_V q)) := by
  obtain ⟨d, rfl⟩ : ∃ e, d = e + 1 := ⟨d - 1, by omega⟩
  show wp w (d + 1) YX35_prefixed 0 [some (.ref this), none] [] h _
  unfold fX35_prefixed at hf
  refine w_bipush dX35_prefixed_0 (v := 39) (by decide) ?_
  refine w_istore_n dX35_prefixed_2 rfl (by decide) (ls' := [some (.ref this), some (.int (39 : Int32))]) rfl ?_
  exact (pX35_prefixed_b3 hd hdr hsE hsL hsN N _ _ _ _ hf).to ⟨rfl, rfl, trivial⟩
abbrev cX35_doPrimitive : ByteArray := prog_37_method_176_code
def yX35_doPrimitive : MethodName := ⟨RX35, "doPrimitive", "(I)V"⟩
def YX35_doPrimitive : eY := (yX35_doPrimitive, cX35_doPrimitive, 2, none, [])
theorem mX35_doPrimitive : e_mv YX35_doPrimitive RX35 1 := ⟨q5905, qs395, q5906, by decide, by decide +kernel, (e_sig (by decide +kernel))⟩
theorem dX35_doPrimitive_0 : decode cX35_doPrimitive 0 = .ok (.iload_n 1, 1) := dc_27 (by decide +kernel)
theorem dX35_doPrimitive_1 : decode cX35_doPrimitive 1 = .ok (.tableswitch 207 22 46 #[115, 118, 133, 141, 183, 191, 207, 207, 207, 207, 207, 207, 207, 207, 207, 207, 207, 200, 207, 207, 207, 207, 191, 191, 191], 115) := by decide +kernel
theorem dX35_doPrimitive_116 : decode cX35_doPrimitive 116 = .ok (.goto 118, 3) := dc_167 (a := 0) (b := 118) (v := 118) (by decide +kernel)
theorem dX35_doPrimitive_119 : decode cX35_doPrimitive 119 = .ok (.aload_n 0, 1) := dc_42 (by decide +kernel)
theorem dX35_doPrimitive_120 : decode cX35_doPrimitive 120 = .ok (.invokevirtual 587, 3) := dc_182 (a := 2) (b := 75) (n := 587) (by decide +kernel)
theorem dX35_doPrimitive_123 : decode cX35_doPrimitive 123 = .ok (.iconst 2, 1) := dc_5 (by decide +kernel)
theorem dX35_doPrimitive_124 : decode cX35_doPrimitive 124 = .ok (.if_icmp .ne 110, 3) := dc_160 (a := 0) (b := 110) (v := 110) (by decide +kernel)
theorem dX35_doPrimitive_127 : decode cX35_doPrimitive 127 = .ok (.aload_n 0, 1) := dc_42 (by decide +kernel)
theorem dX35_doPrimitive_128 : decode cX35_doPrimitive 128 = .ok (.invokevirtual 1136, 3) := dc_182 (a := 4) (b := 112) (n := 1136) (by decide +kernel)
theorem dX35_doPrimitive_131 : decode cX35_doPrimitive 131 = .ok (.goto 103, 3) := dc_167 (a := 0) (b := 103) (v := 103) (by decide +kernel)
theorem dX35_doPrimitive_134 : decode cX35_doPrimitive 134 = .ok (.aload_n 0, 1) := dc_42 (by decide +kernel)
theorem dX35_doPrimitive_135 : decode cX35_doPrimitive 135 = .ok (.iconst 2, 1) := dc_5 (by decide +kernel)
theorem dX35_doPrimitive_136 : decode cX35_doPrimitive 136 = .ok (.invokevirtual 1157, 3) := dc_182 (a := 4) (b := 133) (n := 1157) (by decide +kernel)
theorem dX35_doPrimitive_139 : decode cX35_doPrimitive 139 = .ok (.goto 95, 3) := dc_167 (a := 0) (b := 95) (v := 95) (by decide +kernel)
theorem dX35_doPrimitive_142 : decode cX35_doPrimitive 142 = .ok (.aload_n 0, 1) := dc_42 (by decide +kernel)
theorem dX35_doPrimitive_143 : decode cX35_doPrimitive 143 = .ok (.getfield 323, 3) := dc_180 (a := 1) (b := 67) (n := 323) (by decide +kernel)
theorem dX35_doPrimitive_146 : decode cX35_doPrimitive 146 = .ok (.ifCond .eq 16, 3) := dc_153 (a := 0) (b := 16) (v := 16) (by decide +kernel)
theorem dX35_doPrimitive_149 : decode cX35_doPrimitive 149 = .ok (.aload_n 0, 1) := dc_42 (by decide +kernel)
theorem dX35_doPrimitive_150 : decode cX35_doPrimitive 150 = .ok (.getfield 68, 3) := dc_180 (a := 0) (b := 68) (n := 68) (by decide +kernel)
theorem dX35_doPrimitive_153 : decode cX35_doPrimitive 153 = .ok (.aload_n 0, 1) := dc_42 (by decide +kernel)
theorem dX35_doPrimitive_154 : decode cX35_doPrimitive 154 = .ok (.getfield 323, 3) := dc_180 (a := 1) (b := 67) (n := 323) (by decide +kernel)
theorem dX35_doPrimitive_157 : decode cX35_doPrimitive 157 = .ok (.iaload, 1) := dc_46 (by decide +kernel)
theorem dX35_doPrimitive_158 : decode cX35_doPrimitive 158 = .ok (.iconst 2, 1) := dc_5 (by decide +kernel)
theorem dX35_doPrimitive_159 : decode cX35_doPrimitive 159 = .ok (.if_icmp .eq 12, 3) := dc_159 (a := 0) (b := 12) (v := 12) (by decide +kernel)
theorem dX35_doPrimitive_162 : decode cX35_doPrimitive 162 = .ok (.aload_n 0, 1) := dc_42 (by decide +kernel)
theorem dX35_doPrimitive_163 : decode cX35_doPrimitive 163 = .ok (.bipush 13, 2) := dc_16 (a := 13) (v := 13) (by decide +kernel)
theorem dX35_doPrimitive_165 : decode cX35_doPrimitive 165 = .ok (.invokevirtual 428, 3) := dc_182 (a := 1) (b := 172) (n := 428) (by decide +kernel)
theorem dX35_doPrimitive_168 : decode cX35_doPrimitive 168 = .ok (.goto 66, 3) := dc_167 (a := 0) (b := 66) (v := 66) (by decide +kernel)
theorem dX35_doPrimitive_171 : decode cX35_doPrimitive 171 = .ok (.aload_n 0, 1) := dc_42 (by decide +kernel)
theorem dX35_doPrimitive_172 : decode cX35_doPrimitive 172 = .ok (.dup, 1) := dc_89 (by decide +kernel)
theorem dX35_doPrimitive_173 : decode cX35_doPrimitive 173 = .ok (.getfield 323, 3) := dc_180 (a := 1) (b := 67) (n := 323) (by decide +kernel)
theorem dX35_doPrimitive_176 : decode cX35_doPrimitive 176 = .ok (.iconst 1, 1) := dc_4 (by decide +kernel)
theorem dX35_doPrimitive_177 : decode cX35_doPrimitive 177 = .ok (.isub, 1) := dc_100 (by decide +kernel)
theorem dX35_doPrimitive_178 : decode cX35_doPrimitive 178 = .ok (.putfield 323, 3) := dc_181 (a := 1) (b := 67) (n := 323) (by decide +kernel)
theorem dX35_doPrimitive_181 : decode cX35_doPrimitive 181 = .ok (.goto 53, 3) := dc_167 (a := 0) (b := 53) (v := 53) (by decide +kernel)
theorem dX35_doPrimitive_184 : decode cX35_doPrimitive 184 = .ok (.aload_n 0, 1) := dc_42 (by decide +kernel)
theorem dX35_doPrimitive_185 : decode cX35_doPrimitive 185 = .ok (.iconst 1, 1) := dc_4 (by decide +kernel)
theorem dX35_doPrimitive_186 : decode cX35_doPrimitive 186 = .ok (.putfield 356, 3) := dc_181 (a := 1) (b := 100) (n := 356) (by decide +kernel)
theorem dX35_doPrimitive_189 : decode cX35_doPrimitive 189 = .ok (.goto 45, 3) := dc_167 (a := 0) (b := 45) (v := 45) (by decide +kernel)
theorem dX35_doPrimitive_192 : decode cX35_doPrimitive 192 = .ok (.aload_n 0, 1) := dc_42 (by decide +kernel)
theorem dX35_doPrimitive_193 : decode cX35_doPrimitive 193 = .ok (.bipush 6, 2) := dc_16 (a := 6) (v := 6) (by decide +kernel)
theorem dX35_doPrimitive_195 : decode cX35_doPrimitive 195 = .ok (.invokevirtual 428, 3) := dc_182 (a := 1) (b := 172) (n := 428) (by decide +kernel)
theorem dX35_doPrimitive_198 : decode cX35_doPrimitive 198 = .ok (.goto 36, 3) := dc_167 (a := 0) (b := 36) (v := 36) (by decide +kernel)
theorem dX35_doPrimitive_201 : decode cX35_doPrimitive 201 = .ok (.aload_n 0, 1) := dc_42 (by decide +kernel)
theorem dX35_doPrimitive_202 : decode cX35_doPrimitive 202 = .ok (.invokevirtual 1175, 3) := dc_182 (a := 4) (b := 151) (n := 1175) (by decide +kernel)
theorem dX35_doPrimitive_205 : decode cX35_doPrimitive 205 = .ok (.goto 29, 3) := dc_167 (a := 0) (b := 29) (v := 29) (by decide +kernel)
theorem dX35_doPrimitive_208 : decode cX35_doPrimitive 208 = .ok (.iload_n 1, 1) := dc_27 (by decide +kernel)
theorem dX35_doPrimitive_209 : decode cX35_doPrimitive 209 = .ok (.bipush 47, 2) := dc_16 (a := 47) (v := 47) (by decide +kernel)
theorem dX35_doPrimitive_211 : decode cX35_doPrimitive 211 = .ok (.if_icmp .lt 17, 3) := dc_161 (a := 0) (b := 17) (v := 17) (by decide +kernel)
theorem dX35_doPrimitive_214 : decode cX35_doPrimitive 214 = .ok (.iload_n 1, 1) := dc_27 (by decide +kernel)
theorem dX35_doPrimitive_215 : decode cX35_doPrimitive 215 = .ok (.bipush 69, 2) := dc_16 (a := 69) (v := 69) (by decide +kernel)
theorem dX35_doPrimitive_217 : decode cX35_doPrimitive 217 = .ok (.if_icmp .gt 11, 3) := dc_163 (a := 0) (b := 11) (v := 11) (by decide +kernel)
theorem dX35_doPrimitive_220 : decode cX35_doPrimitive 220 = .ok (.aload_n 0, 1) := dc_42 (by decide +kernel)
theorem dX35_doPrimitive_221 : decode cX35_doPrimitive 221 = .ok (.iload_n 1, 1) := dc_27 (by decide +kernel)
theorem dX35_doPrimitive_222 : decode cX35_doPrimitive 222 = .ok (.invokevirtual 1178, 3) := dc_182 (a := 4) (b := 154) (n := 1178) (by decide +kernel)
theorem dX35_doPrimitive_225 : decode cX35_doPrimitive 225 = .ok (.goto 9, 3) := dc_167 (a := 0) (b := 9) (v := 9) (by decide +kernel)
theorem dX35_doPrimitive_228 : decode cX35_doPrimitive 228 = .ok (.aload_n 0, 1) := dc_42 (by decide +kernel)
theorem dX35_doPrimitive_229 : decode cX35_doPrimitive 229 = .ok (.iload_n 1, 1) := dc_27 (by decide +kernel)
theorem dX35_doPrimitive_230 : decode cX35_doPrimitive 230 = .ok (.iconst 0, 1) := dc_3 (by decide +kernel)
theorem dX35_doPrimitive_231 : decode cX35_doPrimitive 231 = .ok (.invokevirtual 1181, 3) := dc_182 (a := 4) (b := 157) (n := 1181) (by decide +kernel)
theorem dX35_doPrimitive_234 : decode cX35_doPrimitive 234 = .ok (.return_, 1) := dc_177 (by decide +kernel)
def fX35_doPrimitive_b234 (N : Nat) (sE : Nat → Int32 → eH → Option (Unit × eH)) (sL : Nat → Int32 → Int64 → Int64 → eH → Option (Int32 × eH)) (sN : Nat → eH → Option (Int32 × eH))  (h : eH) : Option (Unit × eH) :=
  some ((), h)
theorem pX35_doPrimitive_b234 {w : eW} {d : Nat} {dr : Nat} (hd : dr + 18 ≤ d + 1) (hdr : 12 ≤ dr) {N : Nat} {sE : Nat → Int32 → eH → Option (Unit × eH)} {sL : Nat → Int32 → Int64 → Int64 → eH → Option (Int32 × eH)} {sN : Nat → eH → Option (Int32 × eH)} (hsE : ∀ a t0 h q, sE a t0 h = some q → wm w dr YX35_expand [.ref a, .int t0] h (e_is (e_rn c_V q))) (hsL : ∀ a t0 t1 t2 h q, sL a t0 t1 t2 h = some q → wm w dr YX35_layBox [.ref a, .int t0, .long t1, .long t2] h (e_is (e_rn c_I q))) (hsN : ∀ a h q, sN a h = some q → wm w dr YX35_number [.ref a] h (e_is (e_rn c_I q)))  {h : eH} {q} (hf : fX35_doPrimitive_b234 N sE sL sN h = some q) : wp w (d + 1) YX35_doPrimitive 234 [none, none] [] h (e_is (e_rn c_V q)) := by
  unfold fX35_doPrimitive_b234 at hf
  cases hf
  exact w_vret dX35_doPrimitive_234 rfl rfl
def fX35_doPrimitive_b162 (N : Nat) (sE : Nat → Int32 → eH → Option (Unit × eH)) (sL : Nat → Int32 → Int64 → Int64 → eH → Option (Int32 × eH)) (sN : Nat → eH → Option (Int32 × eH)) (l0 : Nat) (h : eH) : Option (Unit × eH) :=
  (k_ok 34 h l0).bind fun _ =>
  (fX35_fail l0 (13 : Int32) h).bind fun q2 =>
  fX35_doPrimitive_b234 N sE sL sN q2.2
theorem pX35_doPrimitive_b162 {w : eW} {d : Nat} {dr : Nat} (hd : dr + 18 ≤ d + 1) (hdr : 12 ≤ dr) {N : Nat} {sE : Nat → Int32 → eH → Option (Unit × eH)} {sL : Nat → Int32 → Int64 → Int64 → eH → Option (Int32 × eH)} {sN : Nat → eH → Option (Int32 × eH)} (hsE : ∀ a t0 h q, sE a t0 h = some q → wm w dr YX35_expand [.ref a, .int t0] h (e_is (e_rn c_V q))) (hsL : ∀ a t0 t1 t2 h q, sL a t0 t1 t2 h = some q → wm w dr YX35_layBox [.ref a, .int t0, .long t1, .long t2] h (e_is (e_rn c_I q))) (hsN : ∀ a h q, sN a h = some q → wm w dr YX35_number [.ref a] h (e_is (e_rn c_I q))) {l0 : Nat} {h : eH} {q} (hf : fX35_doPrimitive_b162 N sE sL sN l0 h = some q) : wp w (d + 1) YX35_doPrimitive 162 [some (.ref l0), none] [] h (e_is (e_rn c_V q)) := by
  unfold fX35_doPrimitive_b162 at hf
  refine w_aload_n dX35_doPrimitive_162 rfl rfl ?_
  refine w_bipush dX35_doPrimitive_163 (v := 13) (by decide) ?_
  obtain ⟨_, b1, hf⟩ := Option.bind_eq_some_iff.mp hf
  refine x_cnV hf (e_stV (Yc := YX35_fail) (ci := 34) (av := [.int (13 : Int32)]) (st := []) dX35_doPrimitive_165 q5109 mX35_fail rfl (k_ok_some b1).1 (k_ok_some b1).2) mX35_fail.2.2.1 mX35_fail.2.2.2.2.1 (Nat.le_of_ble_eq_true rfl) (Nat.le_of_ble_eq_true rfl) (fun q hq => pX35_fail (by omega) hq) (fun q2 hf => ?_)
  refine w_goto 234 dX35_doPrimitive_168 (by decide) ?_
  exact (pX35_doPrimitive_b234 hd hdr hsE hsL hsN hf).to trivial
def fX35_doPrimitive_b228 (N : Nat) (sE : Nat → Int32 → eH → Option (Unit × eH)) (sL : Nat → Int32 → Int64 → Int64 → eH → Option (Int32 × eH)) (sN : Nat → eH → Option (Int32 × eH)) (l0 : Nat) (l1 : Int32) (h : eH) : Option (Unit × eH) :=
  (k_ok 34 h l0).bind fun _ =>
  (fX35_set N sE sL sN l0 l1 (0 : Int32) h).bind fun q2 =>
  fX35_doPrimitive_b234 N sE sL sN q2.2
theorem pX35_doPrimitive_b228 {w : eW} {d : Nat} {dr : Nat} (hd : dr + 18 ≤ d + 1) (hdr : 12 ≤ dr) {N : Nat} {sE : Nat → Int32 → eH → Option (Unit × eH)} {sL : Nat → Int32 → Int64 → Int64 → eH → Option (Int32 × eH)} {sN : Nat → eH → Option (Int32 × eH)} (hsE : ∀ a t0 h q, sE a t0 h = some q → wm w dr YX35_expand [.ref a, .int t0] h (e_is (e_rn c_V q))) (hsL : ∀ a t0 t1 t2 h q, sL a t0 t1 t2 h = some q → wm w dr YX35_layBox [.ref a, .int t0, .long t1, .long t2] h (e_is (e_rn c_I q))) (hsN : ∀ a h q, sN a h = some q → wm w dr YX35_number [.ref a] h (e_is (e_rn c_I q))) {l0 : Nat} {l1 : Int32} {h : eH} {q} (hf : fX35_doPrimitive_b228 N sE sL sN l0 l1 h = some q) : wp w (d + 1) YX35_doPrimitive 228 [some (.ref l0), some (.int l1)] [] h (e_is (e_rn c_V q)) := by
  unfold fX35_doPrimitive_b228 at hf
  refine w_aload_n dX35_doPrimitive_228 rfl rfl ?_
  refine w_iload_n dX35_doPrimitive_229 rfl rfl ?_
  refine w_iconst dX35_doPrimitive_230 (v := 0) (by decide) ?_
  obtain ⟨_, b1, hf⟩ := Option.bind_eq_some_iff.mp hf
  refine x_cnV hf (e_stV (Yc := YX35_set) (ci := 34) (av := [.int l1, .int (0 : Int32)]) (st := []) dX35_doPrimitive_231 q5918 mX35_set rfl (k_ok_some b1).1 (k_ok_some b1).2) mX35_set.2.2.1 mX35_set.2.2.2.2.1 (Nat.le_of_ble_eq_true rfl) (Nat.le_of_ble_eq_true rfl) (fun q hq => pX35_set (by omega) hdr hsE hsL hsN hq) (fun q2 hf => ?_)
  exact (pX35_doPrimitive_b234 hd hdr hsE hsL hsN hf).to trivial
def fX35_doPrimitive (N : Nat) (sE : Nat → Int32 → eH → Option (Unit × eH)) (sL : Nat → Int32 → Int64 → Int64 → eH → Option (Int32 × eH)) (sN : Nat → eH → Option (Int32 × eH)) (this : Nat) (p0 : Int32) (h : eH) : Option (Unit × eH) :=
  if p0 = (22 : Int32) then
    fX35_doPrimitive_b234 N sE sL sN h
  else
  if p0 = (23 : Int32) then
    (k_ok 34 h this).bind fun _ =>
    (fX35_mode this h).bind fun q4 =>
    if ¬ q4.1 = (2 : Int32) then
      fX35_doPrimitive_b234 N sE sL sN q4.2
    else
      (k_ok 34 q4.2 this).bind fun _ =>
      (fX35_endParagraph N sL this q4.2).bind fun q7 =>
      fX35_doPrimitive_b234 N sE sL sN q7.2
  else
  if p0 = (24 : Int32) then
    (k_ok 34 h this).bind fun _ =>
    (fX35_openGroup N this (2 : Int32) h).bind fun q10 =>
    fX35_doPrimitive_b234 N sE sL sN q10.2
  else
  if p0 = (25 : Int32) then
    (g_I 34 h this 21).bind fun x12 =>
    if x12 = 0 then
      fX35_doPrimitive_b162 N sE sL sN this h
    else
      (g_A 34 h this 23).bind fun a15 =>
      (g_I 34 h this 21).bind fun x17 =>
      (r_I 100 h a15 x17).bind fun x19 =>
      if x19 = (2 : Int32) then
        (g_I 34 h this 21).bind fun x22 =>
        (p_V 34 h this 21 (.int (x22 - (1 : Int32)))).bind fun h24 =>
        fX35_doPrimitive_b234 N sE sL sN h24
      else
        fX35_doPrimitive_b162 N sE sL sN this h
  else
  if p0 = (26 : Int32) then
    (p_Z 34 h this 47 (1 : Int32)).bind fun h27 =>
    fX35_doPrimitive_b234 N sE sL sN h27
  else
  if p0 = (27 : Int32) then
    (k_ok 34 h this).bind fun _ =>
    (fX35_fail this (6 : Int32) h).bind fun q31 =>
    fX35_doPrimitive_b234 N sE sL sN q31.2
  else
  if p0 = (28 : Int32) then
    if p0 < (47 : Int32) then
      fX35_doPrimitive_b228 N sE sL sN this p0 h
    else
      if (69 : Int32) < p0 then
        fX35_doPrimitive_b228 N sE sL sN this p0 h
      else
        (k_ok 34 h this).bind fun _ =>
        (fX35_doList N sE sL sN this p0 h).bind fun q36 =>
        fX35_doPrimitive_b234 N sE sL sN q36.2
  else
  if p0 = (29 : Int32) then
    if p0 < (47 : Int32) then
      fX35_doPrimitive_b228 N sE sL sN this p0 h
    else
      if (69 : Int32) < p0 then
        fX35_doPrimitive_b228 N sE sL sN this p0 h
      else
        (k_ok 34 h this).bind fun _ =>
        (fX35_doList N sE sL sN this p0 h).bind fun q41 =>
        fX35_doPrimitive_b234 N sE sL sN q41.2
  else
  if p0 = (30 : Int32) then
    if p0 < (47 : Int32) then
      fX35_doPrimitive_b228 N sE sL sN this p0 h
    else
      if (69 : Int32) < p0 then
        fX35_doPrimitive_b228 N sE sL sN this p0 h
      else
        (k_ok 34 h this).bind fun _ =>
        (fX35_doList N sE sL sN this p0 h).bind fun q46 =>
        fX35_doPrimitive_b234 N sE sL sN q46.2
  else
  if p0 = (31 : Int32) then
    if p0 < (47 : Int32) then
      fX35_doPrimitive_b228 N sE sL sN this p0 h
    else
      if (69 : Int32) < p0 then
        fX35_doPrimitive_b228 N sE sL sN this p0 h
      else
        (k_ok 34 h this).bind fun _ =>
        (fX35_doList N sE sL sN this p0 h).bind fun q51 =>
        fX35_doPrimitive_b234 N sE sL sN q51.2
  else
  if p0 = (32 : Int32) then
    if p0 < (47 : Int32) then
      fX35_doPrimitive_b228 N sE sL sN this p0 h
    else
      if (69 : Int32) < p0 then
        fX35_doPrimitive_b228 N sE sL sN this p0 h
      else
        (k_ok 34 h this).bind fun _ =>
        (fX35_doList N sE sL sN this p0 h).bind fun q56 =>
        fX35_doPrimitive_b234 N sE sL sN q56.2
  else
  if p0 = (33 : Int32) then
    if p0 < (47 : Int32) then
      fX35_doPrimitive_b228 N sE sL sN this p0 h
    else
      if (69 : Int32) < p0 then
        fX35_doPrimitive_b228 N sE sL sN this p0 h
      else
        (k_ok 34 h this).bind fun _ =>
        (fX35_doList N sE sL sN this p0 h).bind fun q61 =>
        fX35_doPrimitive_b234 N sE sL sN q61.2
  else
  if p0 = (34 : Int32) then
    if p0 < (47 : Int32) then
      fX35_doPrimitive_b228 N sE sL sN this p0 h
    else
      if (69 : Int32) < p0 then
        fX35_doPrimitive_b228 N sE sL sN this p0 h
      else
        (k_ok 34 h this).bind fun _ =>
        (fX35_doList N sE sL sN this p0 h).bind fun q66 =>
        fX35_doPrimitive_b234 N sE sL sN q66.2
  else
  if p0 = (35 : Int32) then
    if p0 < (47 : Int32) then
      fX35_doPrimitive_b228 N sE sL sN this p0 h
    else
      if (69 : Int32) < p0 then
        fX35_doPrimitive_b228 N sE sL sN this p0 h
      else
        (k_ok 34 h this).bind fun _ =>
        (fX35_doList N sE sL sN this p0 h).bind fun q71 =>
        fX35_doPrimitive_b234 N sE sL sN q71.2
  else
  if p0 = (36 : Int32) then
    if p0 < (47 : Int32) then
      fX35_doPrimitive_b228 N sE sL sN this p0 h
    else
      if (69 : Int32) < p0 then
        fX35_doPrimitive_b228 N sE sL sN this p0 h
      else
        (k_ok 34 h this).bind fun _ =>
        (fX35_doList N sE sL sN this p0 h).bind fun q76 =>
        fX35_doPrimitive_b234 N sE sL sN q76.2
  else
  if p0 = (37 : Int32) then
    if p0 < (47 : Int32) then
      fX35_doPrimitive_b228 N sE sL sN this p0 h
    else
      if (69 : Int32) < p0 then
        fX35_doPrimitive_b228 N sE sL sN this p0 h
      else
        (k_ok 34 h this).bind fun _ =>
        (fX35_doList N sE sL sN this p0 h).bind fun q81 =>
        fX35_doPrimitive_b234 N sE sL sN q81.2
  else
  if p0 = (38 : Int32) then
    if p0 < (47 : Int32) then
      fX35_doPrimitive_b228 N sE sL sN this p0 h
    else
      if (69 : Int32) < p0 then
        fX35_doPrimitive_b228 N sE sL sN this p0 h
      else
        (k_ok 34 h this).bind fun _ =>
        (fX35_doList N sE sL sN this p0 h).bind fun q86 =>
        fX35_doPrimitive_b234 N sE sL sN q86.2
  else
  if p0 = (39 : Int32) then
    (k_ok 34 h this).bind fun _ =>
    (fX35_prefixed N sE sL sN this h).bind fun q89 =>
    fX35_doPrimitive_b234 N sE sL sN q89.2
  else
  if p0 = (40 : Int32) then
    if p0 < (47 : Int32) then
      fX35_doPrimitive_b228 N sE sL sN this p0 h
    else
      if (69 : Int32) < p0 then
        fX35_doPrimitive_b228 N sE sL sN this p0 h
      else
        (k_ok 34 h this).bind fun _ =>
        (fX35_doList N sE sL sN this p0 h).bind fun q94 =>
        fX35_doPrimitive_b234 N sE sL sN q94.2
  else
  if p0 = (41 : Int32) then
    if p0 < (47 : Int32) then
      fX35_doPrimitive_b228 N sE sL sN this p0 h
    else
      if (69 : Int32) < p0 then
        fX35_doPrimitive_b228 N sE sL sN this p0 h
      else
        (k_ok 34 h this).bind fun _ =>
        (fX35_doList N sE sL sN this p0 h).bind fun q99 =>
        fX35_doPrimitive_b234 N sE sL sN q99.2
  else
  if p0 = (42 : Int32) then
    if p0 < (47 : Int32) then
      fX35_doPrimitive_b228 N sE sL sN this p0 h
    else
      if (69 : Int32) < p0 then
        fX35_doPrimitive_b228 N sE sL sN this p0 h
      else
        (k_ok 34 h this).bind fun _ =>
        (fX35_doList N sE sL sN this p0 h).bind fun q104 =>
        fX35_doPrimitive_b234 N sE sL sN q104.2
  else
  if p0 = (43 : Int32) then
    if p0 < (47 : Int32) then
      fX35_doPrimitive_b228 N sE sL sN this p0 h
    else
      if (69 : Int32) < p0 then
        fX35_doPrimitive_b228 N sE sL sN this p0 h
      else
        (k_ok 34 h this).bind fun _ =>
        (fX35_doList N sE sL sN this p0 h).bind fun q109 =>
        fX35_doPrimitive_b234 N sE sL sN q109.2
  else
  if p0 = (44 : Int32) then
    (k_ok 34 h this).bind fun _ =>
    (fX35_fail this (6 : Int32) h).bind fun q112 =>
    fX35_doPrimitive_b234 N sE sL sN q112.2
  else
  if p0 = (45 : Int32) then
    (k_ok 34 h this).bind fun _ =>
    (fX35_fail this (6 : Int32) h).bind fun q115 =>
    fX35_doPrimitive_b234 N sE sL sN q115.2
  else
  if p0 = (46 : Int32) then
    (k_ok 34 h this).bind fun _ =>
    (fX35_fail this (6 : Int32) h).bind fun q118 =>
    fX35_doPrimitive_b234 N sE sL sN q118.2
  else
  if p0 < (47 : Int32) then
    fX35_doPrimitive_b228 N sE sL sN this p0 h
  else
    if (69 : Int32) < p0 then
      fX35_doPrimitive_b228 N sE sL sN this p0 h
    else
      (k_ok 34 h this).bind fun _ =>
      (fX35_doList N sE sL sN this p0 h).bind fun q122 =>
      fX35_doPrimitive_b234 N sE sL sN q122.2
theorem pX35_doPrimitive {w : eW} {d : Nat} {dr : Nat} (hd : dr + 18 ≤ d) (hdr : 12 ≤ dr) {N : Nat} {sE : Nat → Int32 → eH → Option (Unit × eH)} {sL : Nat → Int32 → Int64 → Int64 → eH → Option (Int32 × eH)} {sN : Nat → eH → Option (Int32 × eH)} (hsE : ∀ a t0 h q, sE a t0 h = some q → wm w dr YX35_expand [.ref a, .int t0] h (e_is (e_rn c_V q))) (hsL : ∀ a t0 t1 t2 h q, sL a t0 t1 t2 h = some q → wm w dr YX35_layBox [.ref a, .int t0, .long t1, .long t2] h (e_is (e_rn c_I q))) (hsN : ∀ a h q, sN a h = some q → wm w dr YX35_number [.ref a] h (e_is (e_rn c_I q))) {this : Nat} {p0 : Int32} {h : eH} {q} (hf : fX35_doPrimitive N sE sL sN this p0 h = some q) : wm w d YX35_doPrimitive [.ref this, .int p0] h (e_is (e_rn c_V q)) := by
  obtain ⟨d, rfl⟩ : ∃ e, d = e + 1 := ⟨d - 1, by omega⟩
  show wp w (d + 1) YX35_doPrimitive 0 [some (.ref this), some (.int p0)] [] h _
  unfold fX35_doPrimitive at hf
  refine w_iload_n dX35_doPrimitive_0 rfl rfl ?_
  by_cases c1 : p0 = (22 : Int32)
  · replace hf := (if_pos c1).symm.trans hf
    refine w_tableIn 116 dX35_doPrimitive_1 (by rw [c1]; decide) (by rw [c1]; decide) (by rw [c1]; rfl) (by decide) ?_
    refine w_goto 234 dX35_doPrimitive_116 (by decide) ?_
    exact (pX35_doPrimitive_b234 hd hdr hsE hsL hsN hf).to trivial
  replace hf := (if_neg c1).symm.trans hf
  by_cases c2 : p0 = (23 : Int32)
  · replace hf := (if_pos c2).symm.trans hf
    refine w_tableIn 119 dX35_doPrimitive_1 (by rw [c2]; decide) (by rw [c2]; decide) (by rw [c2]; rfl) (by decide) ?_
    refine w_aload_n dX35_doPrimitive_119 rfl rfl ?_
    obtain ⟨_, b3, hf⟩ := Option.bind_eq_some_iff.mp hf
    refine x_cnI hf (e_stV (Yc := YX35_mode) (ci := 34) (av := []) (st := []) dX35_doPrimitive_120 q5417 mX35_mode rfl (k_ok_some b3).1 (k_ok_some b3).2) mX35_mode.2.2.1 mX35_mode.2.2.2.2.1 (Nat.le_of_ble_eq_true rfl) (Nat.le_of_ble_eq_true rfl) (fun q hq => pX35_mode (by omega) hq) (fun q4 hf => ?_)
    refine w_iconst dX35_doPrimitive_123 (v := 2) (by decide) ?_
    refine w_icmp_ne 234 dX35_doPrimitive_124 (by decide) (fun c5 => ?_) (fun c5 => ?_)
    · replace hf := (if_pos (show ¬ q4.1 = (2 : Int32) from c5)).symm.trans hf
      exact (pX35_doPrimitive_b234 hd hdr hsE hsL hsN hf).to trivial
    · replace hf := (if_neg (show ¬ (¬ q4.1 = (2 : Int32)) from (fun z => z c5))).symm.trans hf
      refine w_aload_n dX35_doPrimitive_127 rfl rfl ?_
      obtain ⟨_, b6, hf⟩ := Option.bind_eq_some_iff.mp hf
      refine x_cnV hf (e_stV (Yc := YX35_endParagraph) (ci := 34) (av := []) (st := []) dX35_doPrimitive_128 q5742 mX35_endParagraph rfl (k_ok_some b6).1 (k_ok_some b6).2) mX35_endParagraph.2.2.1 mX35_endParagraph.2.2.2.2.1 (Nat.le_of_ble_eq_true rfl) (Nat.le_of_ble_eq_true rfl) (fun q hq => pX35_endParagraph (by omega) hdr hsL hq) (fun q7 hf => ?_)
      refine w_goto 234 dX35_doPrimitive_131 (by decide) ?_
      exact (pX35_doPrimitive_b234 hd hdr hsE hsL hsN hf).to trivial
  replace hf := (if_neg c2).symm.trans hf
  by_cases c8 : p0 = (24 : Int32)
  · replace hf := (if_pos c8).symm.trans hf
    refine w_tableIn 134 dX35_doPrimitive_1 (by rw [c8]; decide) (by rw [c8]; decide) (by rw [c8]; rfl) (by decide) ?_
    refine w_aload_n dX35_doPrimitive_134 rfl rfl ?_
    refine w_iconst dX35_doPrimitive_135 (v := 2) (by decide) ?_
    obtain ⟨_, b9, hf⟩ := Option.bind_eq_some_iff.mp hf
    refine x_cnV hf (e_stV (Yc := YX35_openGroup) (ci := 34) (av := [.int (2 : Int32)]) (st := []) dX35_doPrimitive_136 q5730 mX35_openGroup rfl (k_ok_some b9).1 (k_ok_some b9).2) mX35_openGroup.2.2.1 mX35_openGroup.2.2.2.2.1 (Nat.le_of_ble_eq_true rfl) (Nat.le_of_ble_eq_true rfl) (fun q hq => pX35_openGroup (by omega) hq) (fun q10 hf => ?_)
    refine w_goto 234 dX35_doPrimitive_139 (by decide) ?_
    exact (pX35_doPrimitive_b234 hd hdr hsE hsL hsN hf).to trivial
  replace hf := (if_neg c8).symm.trans hf
  by_cases c11 : p0 = (25 : Int32)
  · replace hf := (if_pos c11).symm.trans hf
    refine w_tableIn 142 dX35_doPrimitive_1 (by rw [c11]; decide) (by rw [c11]; decide) (by rw [c11]; rfl) (by decide) ?_
    refine w_aload_n dX35_doPrimitive_142 rfl rfl ?_
    obtain ⟨x12, b13, hf⟩ := Option.bind_eq_some_iff.mp hf
    refine GX35_323 b13 dX35_doPrimitive_143 rfl ?_
    refine w_if_eq 162 dX35_doPrimitive_146 (by decide) (fun c14 => ?_) (fun c14 => ?_)
    · replace hf := (if_pos (show x12 = 0 from c14)).symm.trans hf
      exact (pX35_doPrimitive_b162 hd hdr hsE hsL hsN hf).to ⟨rfl, trivial⟩
    · replace hf := (if_neg (show ¬ (x12 = 0) from c14)).symm.trans hf
      refine w_aload_n dX35_doPrimitive_149 rfl rfl ?_
      obtain ⟨a15, b16, hf⟩ := Option.bind_eq_some_iff.mp hf
      refine GX35_68 b16 dX35_doPrimitive_150 rfl ?_
      refine w_aload_n dX35_doPrimitive_153 rfl rfl ?_
      obtain ⟨x17, b18, hf⟩ := Option.bind_eq_some_iff.mp hf
      refine GX35_323 b18 dX35_doPrimitive_154 rfl ?_
      obtain ⟨x19, b20, hf⟩ := Option.bind_eq_some_iff.mp hf
      refine x_rI b20 dX35_doPrimitive_157 ?_
      refine w_iconst dX35_doPrimitive_158 (v := 2) (by decide) ?_
      refine w_icmp_eq 171 dX35_doPrimitive_159 (by decide) (fun c21 => ?_) (fun c21 => ?_)
      · replace hf := (if_pos (show x19 = (2 : Int32) from c21)).symm.trans hf
        refine w_aload_n dX35_doPrimitive_171 rfl rfl ?_
        refine w_dup dX35_doPrimitive_172 rfl ?_
        obtain ⟨x22, b23, hf⟩ := Option.bind_eq_some_iff.mp hf
        refine GX35_323 b23 dX35_doPrimitive_173 rfl ?_
        refine w_iconst dX35_doPrimitive_176 (v := 1) (by decide) ?_
        refine w_isub dX35_doPrimitive_177 ?_
        obtain ⟨h24, b25, hf⟩ := Option.bind_eq_some_iff.mp hf
        refine SX35_323 b25 dX35_doPrimitive_178 rfl ?_
        refine w_goto 234 dX35_doPrimitive_181 (by decide) ?_
        exact (pX35_doPrimitive_b234 hd hdr hsE hsL hsN hf).to trivial
      · replace hf := (if_neg (show ¬ (x19 = (2 : Int32)) from c21)).symm.trans hf
        exact (pX35_doPrimitive_b162 hd hdr hsE hsL hsN hf).to ⟨rfl, trivial⟩
  replace hf := (if_neg c11).symm.trans hf
  by_cases c26 : p0 = (26 : Int32)
  · replace hf := (if_pos c26).symm.trans hf
    refine w_tableIn 184 dX35_doPrimitive_1 (by rw [c26]; decide) (by rw [c26]; decide) (by rw [c26]; rfl) (by decide) ?_
    refine w_aload_n dX35_doPrimitive_184 rfl rfl ?_
    refine w_iconst dX35_doPrimitive_185 (v := 1) (by decide) ?_
    obtain ⟨h27, b28, hf⟩ := Option.bind_eq_some_iff.mp hf
    refine SX35_356 b28 dX35_doPrimitive_186 rfl ?_
    refine w_goto 234 dX35_doPrimitive_189 (by decide) ?_
    exact (pX35_doPrimitive_b234 hd hdr hsE hsL hsN hf).to trivial
  replace hf := (if_neg c26).symm.trans hf
  by_cases c29 : p0 = (27 : Int32)
  · replace hf := (if_pos c29).symm.trans hf
    refine w_tableIn 192 dX35_doPrimitive_1 (by rw [c29]; decide) (by rw [c29]; decide) (by rw [c29]; rfl) (by decide) ?_
    refine w_aload_n dX35_doPrimitive_192 rfl rfl ?_
    refine w_bipush dX35_doPrimitive_193 (v := 6) (by decide) ?_
    obtain ⟨_, b30, hf⟩ := Option.bind_eq_some_iff.mp hf
    refine x_cnV hf (e_stV (Yc := YX35_fail) (ci := 34) (av := [.int (6 : Int32)]) (st := []) dX35_doPrimitive_195 q5109 mX35_fail rfl (k_ok_some b30).1 (k_ok_some b30).2) mX35_fail.2.2.1 mX35_fail.2.2.2.2.1 (Nat.le_of_ble_eq_true rfl) (Nat.le_of_ble_eq_true rfl) (fun q hq => pX35_fail (by omega) hq) (fun q31 hf => ?_)
    refine w_goto 234 dX35_doPrimitive_198 (by decide) ?_
    exact (pX35_doPrimitive_b234 hd hdr hsE hsL hsN hf).to trivial
  replace hf := (if_neg c29).symm.trans hf
  by_cases c32 : p0 = (28 : Int32)
  · replace hf := (if_pos c32).symm.trans hf
    refine w_tableIn 208 dX35_doPrimitive_1 (by rw [c32]; decide) (by rw [c32]; decide) (by rw [c32]; rfl) (by decide) ?_
    refine w_iload_n dX35_doPrimitive_208 rfl rfl ?_
    refine w_bipush dX35_doPrimitive_209 (v := 47) (by decide) ?_
    refine w_icmp_lt 228 dX35_doPrimitive_211 (by decide) (fun c33 => ?_) (fun c33 => ?_)
    · replace hf := (if_pos (show p0 < (47 : Int32) from c33)).symm.trans hf
      exact (pX35_doPrimitive_b228 hd hdr hsE hsL hsN hf).to ⟨rfl, rfl, trivial⟩
    · replace hf := (if_neg (show ¬ (p0 < (47 : Int32)) from c33)).symm.trans hf
      refine w_iload_n dX35_doPrimitive_214 rfl rfl ?_
      refine w_bipush dX35_doPrimitive_215 (v := 69) (by decide) ?_
      refine w_icmp_gt 228 dX35_doPrimitive_217 (by decide) (fun c34 => ?_) (fun c34 => ?_)
      · replace hf := (if_pos (show (69 : Int32) < p0 from c34)).symm.trans hf
        exact (pX35_doPrimitive_b228 hd hdr hsE hsL hsN hf).to ⟨rfl, rfl, trivial⟩
      · replace hf := (if_neg (show ¬ ((69 : Int32) < p0) from c34)).symm.trans hf
        refine w_aload_n dX35_doPrimitive_220 rfl rfl ?_
        refine w_iload_n dX35_doPrimitive_221 rfl rfl ?_
        obtain ⟨_, b35, hf⟩ := Option.bind_eq_some_iff.mp hf
        refine x_cnV hf (e_stV (Yc := YX35_doList) (ci := 34) (av := [.int p0]) (st := []) dX35_doPrimitive_222 q6001 mX35_doList rfl (k_ok_some b35).1 (k_ok_some b35).2) mX35_doList.2.2.1 mX35_doList.2.2.2.2.1 (Nat.le_of_ble_eq_true rfl) (Nat.le_of_ble_eq_true rfl) (fun q hq => pX35_doList (by omega) hdr hsE hsL hsN hq) (fun q36 hf => ?_)
        refine w_goto 234 dX35_doPrimitive_225 (by decide) ?_
        exact (pX35_doPrimitive_b234 hd hdr hsE hsL hsN hf).to trivial
  replace hf := (if_neg c32).symm.trans hf
  by_cases c37 : p0 = (29 : Int32)
  · replace hf := (if_pos c37).symm.trans hf
    refine w_tableIn 208 dX35_doPrimitive_1 (by rw [c37]; decide) (by rw [c37]; decide) (by rw [c37]; rfl) (by decide) ?_
    refine w_iload_n dX35_doPrimitive_208 rfl rfl ?_
    refine w_bipush dX35_doPrimitive_209 (v := 47) (by decide) ?_
    refine w_icmp_lt 228 dX35_doPrimitive_211 (by decide) (fun c38 => ?_) (fun c38 => ?_)
    · replace hf := (if_pos (show p0 < (47 : Int32) from c38)).symm.trans hf
      exact (pX35_doPrimitive_b228 hd hdr hsE hsL hsN hf).to ⟨rfl, rfl, trivial⟩
    · replace hf := (if_neg (show ¬ (p0 < (47 : Int32)) from c38)).symm.trans hf
      refine w_iload_n dX35_doPrimitive_214 rfl rfl ?_
      refine w_bipush dX35_doPrimitive_215 (v := 69) (by decide) ?_
      refine w_icmp_gt 228 dX35_doPrimitive_217 (by decide) (fun c39 => ?_) (fun c39 => ?_)
      · replace hf := (if_pos (show (69 : Int32) < p0 from c39)).symm.trans hf
        exact (pX35_doPrimitive_b228 hd hdr hsE hsL hsN hf).to ⟨rfl, rfl, trivial⟩
      · replace hf := (if_neg (show ¬ ((69 : Int32) < p0) from c39)).symm.trans hf
        refine w_aload_n dX35_doPrimitive_220 rfl rfl ?_
        refine w_iload_n dX35_doPrimitive_221 rfl rfl ?_
        obtain ⟨_, b40, hf⟩ := Option.bind_eq_some_iff.mp hf
        refine x_cnV hf (e_stV (Yc := YX35_doList) (ci := 34) (av := [.int p0]) (st := []) dX35_doPrimitive_222 q6001 mX35_doList rfl (k_ok_some b40).1 (k_ok_some b40).2) mX35_doList.2.2.1 mX35_doList.2.2.2.2.1 (Nat.le_of_ble_eq_true rfl) (Nat.le_of_ble_eq_true rfl) (fun q hq => pX35_doList (by omega) hdr hsE hsL hsN hq) (fun q41 hf => ?_)
        refine w_goto 234 dX35_doPrimitive_225 (by decide) ?_
        exact (pX35_doPrimitive_b234 hd hdr hsE hsL hsN hf).to trivial
  replace hf := (if_neg c37).symm.trans hf
  by_cases c42 : p0 = (30 : Int32)
  · replace hf := (if_pos c42).symm.trans hf
    refine w_tableIn 208 dX35_doPrimitive_1 (by rw [c42]; decide) (by rw [c42]; decide) (by rw [c42]; rfl) (by decide) ?_
    refine w_iload_n dX35_doPrimitive_208 rfl rfl ?_
    refine w_bipush dX35_doPrimitive_209 (v := 47) (by decide) ?_
    refine w_icmp_lt 228 dX35_doPrimitive_211 (by decide) (fun c43 => ?_) (fun c43 => ?_)
    · replace hf := (if_pos (show p0 < (47 : Int32) from c43)).symm.trans hf
      exact (pX35_doPrimitive_b228 hd hdr hsE hsL hsN hf).to ⟨rfl, rfl, trivial⟩
    · replace hf := (if_neg (show ¬ (p0 < (47 : Int32)) from c43)).symm.trans hf
      refine w_iload_n dX35_doPrimitive_214 rfl rfl ?_
      refine w_bipush dX35_doPrimitive_215 (v := 69) (by decide) ?_
      refine w_icmp_gt 228 dX35_doPrimitive_217 (by decide) (fun c44 => ?_) (fun c44 => ?_)
      · replace hf := (if_pos (show (69 : Int32) < p0 from c44)).symm.trans hf
        exact (pX35_doPrimitive_b228 hd hdr hsE hsL hsN hf).to ⟨rfl, rfl, trivial⟩
      · replace hf := (if_neg (show ¬ ((69 : Int32) < p0) from c44)).symm.trans hf
        refine w_aload_n dX35_doPrimitive_220 rfl rfl ?_
        refine w_iload_n dX35_doPrimitive_221 rfl rfl ?_
        obtain ⟨_, b45, hf⟩ := Option.bind_eq_some_iff.mp hf
        refine x_cnV hf (e_stV (Yc := YX35_doList) (ci := 34) (av := [.int p0]) (st := []) dX35_doPrimitive_222 q6001 mX35_doList rfl (k_ok_some b45).1 (k_ok_some b45).2) mX35_doList.2.2.1 mX35_doList.2.2.2.2.1 (Nat.le_of_ble_eq_true rfl) (Nat.le_of_ble_eq_true rfl) (fun q hq => pX35_doList (by omega) hdr hsE hsL hsN hq) (fun q46 hf => ?_)
        refine w_goto 234 dX35_doPrimitive_225 (by decide) ?_
        exact (pX35_doPrimitive_b234 hd hdr hsE hsL hsN hf).to trivial
  replace hf := (if_neg c42).symm.trans hf
  by_cases c47 : p0 = (31 : Int32)
  · replace hf := (if_pos c47).symm.trans hf
    refine w_tableIn 208 dX35_doPrimitive_1 (by rw [c47]; decide) (by rw [c47]; decide) (by rw [c47]; rfl) (by decide) ?_
    refine w_iload_n dX35_doPrimitive_208 rfl rfl ?_
    refine w_bipush dX35_doPrimitive_209 (v := 47) (by decide) ?_
    refine w_icmp_lt 228 dX35_doPrimitive_211 (by decide) (fun c48 => ?_) (fun c48 => ?_)
    · replace hf := (if_pos (show p0 < (47 : Int32) from c48)).symm.trans hf
      exact (pX35_doPrimitive_b228 hd hdr hsE hsL hsN hf).to ⟨rfl, rfl, trivial⟩
    · replace hf := (if_neg (show ¬ (p0 < (47 : Int32)) from c48)).symm.trans hf
      refine w_iload_n dX35_doPrimitive_214 rfl rfl ?_
      refine w_bipush dX35_doPrimitive_215 (v := 69) (by decide) ?_
      refine w_icmp_gt 228 dX35_doPrimitive_217 (by decide) (fun c49 => ?_) (fun c49 => ?_)
      · replace hf := (if_pos (show (69 : Int32) < p0 from c49)).symm.trans hf
        exact (pX35_doPrimitive_b228 hd hdr hsE hsL hsN hf).to ⟨rfl, rfl, trivial⟩
      · replace hf := (if_neg (show ¬ ((69 : Int32) < p0) from c49)).symm.trans hf
        refine w_aload_n dX35_doPrimitive_220 rfl rfl ?_
        refine w_iload_n dX35_doPrimitive_221 rfl rfl ?_
        obtain ⟨_, b50, hf⟩ := Option.bind_eq_some_iff.mp hf
        refine x_cnV hf (e_stV (Yc := YX35_doList) (ci := 34) (av := [.int p0]) (st := []) dX35_doPrimitive_222 q6001 mX35_doList rfl (k_ok_some b50).1 (k_ok_some b50).2) mX35_doList.2.2.1 mX35_doList.2.2.2.2.1 (Nat.le_of_ble_eq_true rfl) (Nat.le_of_ble_eq_true rfl) (fun q hq => pX35_doList (by omega) hdr hsE hsL hsN hq) (fun q51 hf => ?_)
        refine w_goto 234 dX35_doPrimitive_225 (by decide) ?_
        exact (pX35_doPrimitive_b234 hd hdr hsE hsL hsN hf).to trivial
  replace hf := (if_neg c47).symm.trans hf
  by_cases c52 : p0 = (32 : Int32)
  · replace hf := (if_pos c52).symm.trans hf
    refine w_tableIn 208 dX35_doPrimitive_1 (by rw [c52]; decide) (by rw [c52]; decide) (by rw [c52]; rfl) (by decide) ?_
    refine w_iload_n dX35_doPrimitive_208 rfl rfl ?_
    refine w_bipush dX35_doPrimitive_209 (v := 47) (by decide) ?_
    refine w_icmp_lt 228 dX35_doPrimitive_211 (by decide) (fun c53 => ?_) (fun c53 => ?_)
    · replace hf := (if_pos (show p0 < (47 : Int32) from c53)).symm.trans hf
      exact (pX35_doPrimitive_b228 hd hdr hsE hsL hsN hf).to ⟨rfl, rfl, trivial⟩
    · replace hf := (if_neg (show ¬ (p0 < (47 : Int32)) from c53)).symm.trans hf
      refine w_iload_n dX35_doPrimitive_214 rfl rfl ?_
      refine w_bipush dX35_doPrimitive_215 (v := 69) (by decide) ?_
      refine w_icmp_gt 228 dX35_doPrimitive_217 (by decide) (fun c54 => ?_) (fun c54 => ?_)
      · replace hf := (if_pos (show (69 : Int32) < p0 from c54)).symm.trans hf
        exact (pX35_doPrimitive_b228 hd hdr hsE hsL hsN hf).to ⟨rfl, rfl, trivial⟩
      · replace hf := (if_neg (show ¬ ((69 : Int32) < p0) from c54)).symm.trans hf
        refine w_aload_n dX35_doPrimitive_220 rfl rfl ?_
        refine w_iload_n dX35_doPrimitive_221 rfl rfl ?_
        obtain ⟨_, b55, hf⟩ := Option.bind_eq_some_iff.mp hf
        refine x_cnV hf (e_stV (Yc := YX35_doList) (ci := 34) (av := [.int p0]) (st := []) dX35_doPrimitive_222 q6001 mX35_doList rfl (k_ok_some b55).1 (k_ok_some b55).2) mX35_doList.2.2.1 mX35_doList.2.2.2.2.1 (Nat.le_of_ble_eq_true rfl) (Nat.le_of_ble_eq_true rfl) (fun q hq => pX35_doList (by omega) hdr hsE hsL hsN hq) (fun q56 hf => ?_)
        refine w_goto 234 dX35_doPrimitive_225 (by decide) ?_
        exact (pX35_doPrimitive_b234 hd hdr hsE hsL hsN hf).to trivial
  replace hf := (if_neg c52).symm.trans hf
  by_cases c57 : p0 = (33 : Int32)
  · replace hf := (if_pos c57).symm.trans hf
    refine w_tableIn 208 dX35_doPrimitive_1 (by rw [c57]; decide) (by rw [c57]; decide) (by rw [c57]; rfl) (by decide) ?_
    refine w_iload_n dX35_doPrimitive_208 rfl rfl ?_
    refine w_bipush dX35_doPrimitive_209 (v := 47) (by decide) ?_
    refine w_icmp_lt 228 dX35_doPrimitive_211 (by decide) (fun c58 => ?_) (fun c58 => ?_)
    · replace hf := (if_pos (show p0 < (47 : Int32) from c58)).symm.trans hf
      exact (pX35_doPrimitive_b228 hd hdr hsE hsL hsN hf).to ⟨rfl, rfl, trivial⟩
    · replace hf := (if_neg (show ¬ (p0 < (47 : Int32)) from c58)).symm.trans hf
      refine w_iload_n dX35_doPrimitive_214 rfl rfl ?_
      refine w_bipush dX35_doPrimitive_215 (v := 69) (by decide) ?_
      refine w_icmp_gt 228 dX35_doPrimitive_217 (by decide) (fun c59 => ?_) (fun c59 => ?_)
      · replace hf := (if_pos (show (69 : Int32) < p0 from c59)).symm.trans hf
        exact (pX35_doPrimitive_b228 hd hdr hsE hsL hsN hf).to ⟨rfl, rfl, trivial⟩
      · replace hf := (if_neg (show ¬ ((69 : Int32) < p0) from c59)).symm.trans hf
        refine w_aload_n dX35_doPrimitive_220 rfl rfl ?_
        refine w_iload_n dX35_doPrimitive_221 rfl rfl ?_
        obtain ⟨_, b60, hf⟩ := Option.bind_eq_some_iff.mp hf
        refine x_cnV hf (e_stV (Yc := YX35_doList) (ci := 34) (av := [.int p0]) (st := []) dX35_doPrimitive_222 q6001 mX35_doList rfl (k_ok_some b60).1 (k_ok_some b60).2) mX35_doList.2.2.1 mX35_doList.2.2.2.2.1 (Nat.le_of_ble_eq_true rfl) (Nat.le_of_ble_eq_true rfl) (fun q hq => pX35_doList (by omega) hdr hsE hsL hsN hq) (fun q61 hf => ?_)
        refine w_goto 234 dX35_doPrimitive_225 (by decide) ?_
        exact (pX35_doPrimitive_b234 hd hdr hsE hsL hsN hf).to trivial
  replace hf := (if_neg c57).symm.trans hf
  by_cases c62 : p0 = (34 : Int32)
  · replace hf := (if_pos c62).symm.trans hf
    refine w_tableIn 208 dX35_doPrimitive_1 (by rw [c62]; decide) (by rw [c62]; decide) (by rw [c62]; rfl) (by decide) ?_
    refine w_iload_n dX35_doPrimitive_208 rfl rfl ?_
    refine w_bipush dX35_doPrimitive_209 (v := 47) (by decide) ?_
    refine w_icmp_lt 228 dX35_doPrimitive_211 (by decide) (fun c63 => ?_) (fun c63 => ?_)
    · replace hf := (if_pos (show p0 < (47 : Int32) from c63)).symm.trans hf
      exact (pX35_doPrimitive_b228 hd hdr hsE hsL hsN hf).to ⟨rfl, rfl, trivial⟩
    · replace hf := (if_neg (show ¬ (p0 < (47 : Int32)) from c63)).symm.trans hf
      refine w_iload_n dX35_doPrimitive_214 rfl rfl ?_
      refine w_bipush dX35_doPrimitive_215 (v := 69) (by decide) ?_
      refine w_icmp_gt 228 dX35_doPrimitive_217 (by decide) (fun c64 => ?_) (fun c64 => ?_)
      · replace hf := (if_pos (show (69 : Int32) < p0 from c64)).symm.trans hf
        exact (pX35_doPrimitive_b228 hd hdr hsE hsL hsN hf).to ⟨rfl, rfl, trivial⟩
      · replace hf := (if_neg (show ¬ ((69 : Int32) < p0) from c64)).symm.trans hf
        refine w_aload_n dX35_doPrimitive_220 rfl rfl ?_
        refine w_iload_n dX35_doPrimitive_221 rfl rfl ?_
        obtain ⟨_, b65, hf⟩ := Option.bind_eq_some_iff.mp hf
        refine x_cnV hf (e_stV (Yc := YX35_doList) (ci := 34) (av := [.int p0]) (st := []) dX35_doPrimitive_222 q6001 mX35_doList rfl (k_ok_some b65).1 (k_ok_some b65).2) mX35_doList.2.2.1 mX35_doList.2.2.2.2.1 (Nat.le_of_ble_eq_true rfl) (Nat.le_of_ble_eq_true rfl) (fun q hq => pX35_doList (by omega) hdr hsE hsL hsN hq) (fun q66 hf => ?_)
        refine w_goto 234 dX35_doPrimitive_225 (by decide) ?_
        exact (pX35_doPrimitive_b234 hd hdr hsE hsL hsN hf).to trivial
  replace hf := (if_neg c62).symm.trans hf
  by_cases c67 : p0 = (35 : Int32)
  · replace hf := (if_pos c67).symm.trans hf
    refine w_tableIn 208 dX35_doPrimitive_1 (by rw [c67]; decide) (by rw [c67]; decide) (by rw [c67]; rfl) (by decide) ?_
    refine w_iload_n dX35_doPrimitive_208 rfl rfl ?_
    refine w_bipush dX35_doPrimitive_209 (v := 47) (by decide) ?_
    refine w_icmp_lt 228 dX35_doPrimitive_211 (by decide) (fun c68 => ?_) (fun c68 => ?_)
    · replace hf := (if_pos (show p0 < (47 : Int32) from c68)).symm.trans hf
      exact (pX35_doPrimitive_b228 hd hdr hsE hsL hsN hf).to ⟨rfl, rfl, trivial⟩
    · replace hf := (if_neg (show ¬ (p0 < (47 : Int32)) from c68)).symm.trans hf
      refine w_iload_n dX35_doPrimitive_214 rfl rfl ?_
      refine w_bipush dX35_doPrimitive_215 (v := 69) (by decide) ?_
      refine w_icmp_gt 228 dX35_doPrimitive_217 (by decide) (fun c69 => ?_) (fun c69 => ?_)
      · replace hf := (if_pos (show (69 : Int32) < p0 from c69)).symm.trans hf
        exact (pX35_doPrimitive_b228 hd hdr hsE hsL hsN hf).to ⟨rfl, rfl, trivial⟩
      · replace hf := (if_neg (show ¬ ((69 : Int32) < p0) from c69)).symm.trans hf
        refine w_aload_n dX35_doPrimitive_220 rfl rfl ?_
        refine w_iload_n dX35_doPrimitive_221 rfl rfl ?_
        obtain ⟨_, b70, hf⟩ := Option.bind_eq_some_iff.mp hf
        refine x_cnV hf (e_stV (Yc := YX35_doList) (ci := 34) (av := [.int p0]) (st := []) dX35_doPrimitive_222 q6001 mX35_doList rfl (k_ok_some b70).1 (k_ok_some b70).2) mX35_doList.2.2.1 mX35_doList.2.2.2.2.1 (Nat.le_of_ble_eq_true rfl) (Nat.le_of_ble_eq_true rfl) (fun q hq => pX35_doList (by omega) hdr hsE hsL hsN hq) (fun q71 hf => ?_)
        refine w_goto 234 dX35_doPrimitive_225 (by decide) ?_
        exact (pX35_doPrimitive_b234 hd hdr hsE hsL hsN hf).to trivial
  replace hf := (if_neg c67).symm.trans hf
  by_cases c72 : p0 = (36 : Int32)
  · replace hf := (if_pos c72).symm.trans hf
    refine w_tableIn 208 dX35_doPrimitive_1 (by rw [c72]; decide) (by rw [c72]; decide) (by rw [c72]; rfl) (by decide) ?_
    refine w_iload_n dX35_doPrimitive_208 rfl rfl ?_
    refine w_bipush dX35_doPrimitive_209 (v := 47) (by decide) ?_
    refine w_icmp_lt 228 dX35_doPrimitive_211 (by decide) (fun c73 => ?_) (fun c73 => ?_)
    · replace hf := (if_pos (show p0 < (47 : Int32) from c73)).symm.trans hf
      exact (pX35_doPrimitive_b228 hd hdr hsE hsL hsN hf).to ⟨rfl, rfl, trivial⟩
    · replace hf := (if_neg (show ¬ (p0 < (47 : Int32)) from c73)).symm.trans hf
      refine w_iload_n dX35_doPrimitive_214 rfl rfl ?_
      refine w_bipush dX35_doPrimitive_215 (v := 69) (by decide) ?_
      refine w_icmp_gt 228 dX35_doPrimitive_217 (by decide) (fun c74 => ?_) (fun c74 => ?_)
      · replace hf := (if_pos (show (69 : Int32) < p0 from c74)).symm.trans hf
        exact (pX35_doPrimitive_b228 hd hdr hsE hsL hsN hf).to ⟨rfl, rfl, trivial⟩
      · replace hf := (if_neg (show ¬ ((69 : Int32) < p0) from c74)).symm.trans hf
        refine w_aload_n dX35_doPrimitive_220 rfl rfl ?_
        refine w_iload_n dX35_doPrimitive_221 rfl rfl ?_
        obtain ⟨_, b75, hf⟩ := Option.bind_eq_some_iff.mp hf
        refine x_cnV hf (e_stV (Yc := YX35_doList) (ci := 34) (av := [.int p0]) (st := []) dX35_doPrimitive_222 q6001 mX35_doList rfl (k_ok_some b75).1 (k_ok_some b75).2) mX35_doList.2.2.1 mX35_doList.2.2.2.2.1 (Nat.le_of_ble_eq_true rfl) (Nat.le_of_ble_eq_true rfl) (fun q hq => pX35_doList (by omega) hdr hsE hsL hsN hq) (fun q76 hf => ?_)
        refine w_goto 234 dX35_doPrimitive_225 (by decide) ?_
        exact (pX35_doPrimitive_b234 hd hdr hsE hsL hsN hf).to trivial
  replace hf := (if_neg c72).symm.trans hf
  by_cases c77 : p0 = (37 : Int32)
  · replace hf := (if_pos c77).symm.trans hf
    refine w_tableIn 208 dX35_doPrimitive_1 (by rw [c77]; decide) (by rw [c77]; decide) (by rw [c77]; rfl) (by decide) ?_
    refine w_iload_n dX35_doPrimitive_208 rfl rfl ?_
    refine w_bipush dX35_doPrimitive_209 (v := 47) (by decide) ?_
    refine w_icmp_lt 228 dX35_doPrimitive_211 (by decide) (fun c78 => ?_) (fun c78 => ?_)
    · replace hf := (if_pos (show p0 < (47 : Int32) from c78)).symm.trans hf
      exact (pX35_doPrimitive_b228 hd hdr hsE hsL hsN hf).to ⟨rfl, rfl, trivial⟩
    · replace hf := (if_neg (show ¬ (p0 < (47 : Int32)) from c78)).symm.trans hf
      refine w_iload_n dX35_doPrimitive_214 rfl rfl ?_
      refine w_bipush dX35_doPrimitive_215 (v := 69) (by decide) ?_
      refine w_icmp_gt 228 dX35_doPrimitive_217 (by decide) (fun c79 => ?_) (fun c79 => ?_)
      · replace hf := (if_pos (show (69 : Int32) < p0 from c79)).symm.trans hf
        exact (pX35_doPrimitive_b228 hd hdr hsE hsL hsN hf).to ⟨rfl, rfl, trivial⟩
      · replace hf := (if_neg (show ¬ ((69 : Int32) < p0) from c79)).symm.trans hf
        refine w_aload_n dX35_doPrimitive_220 rfl rfl ?_
        refine w_iload_n dX35_doPrimitive_221 rfl rfl ?_
        obtain ⟨_, b80, hf⟩ := Option.bind_eq_some_iff.mp hf
        refine x_cnV hf (e_stV (Yc := YX35_doList) (ci := 34) (av := [.int p0]) (st := []) dX35_doPrimitive_222 q6001 mX35_doList rfl (k_ok_some b80).1 (k_ok_some b80).2) mX35_doList.2.2.1 mX35_doList.2.2.2.2.1 (Nat.le_of_ble_eq_true rfl) (Nat.le_of_ble_eq_true rfl) (fun q hq => pX35_doList (by omega) hdr hsE hsL hsN hq) (fun q81 hf => ?_)
        refine w_goto 234 dX35_doPrimitive_225 (by decide) ?_
        exact (pX35_doPrimitive_b234 hd hdr hsE hsL hsN hf).to trivial
  replace hf := (if_neg c77).symm.trans hf
  by_cases c82 : p0 = (38 : Int32)
  · replace hf := (if_pos c82).symm.trans hf
    refine w_tableIn 208 dX35_doPrimitive_1 (by rw [c82]; decide) (by rw [c82]; decide) (by rw [c82]; rfl) (by decide) ?_
    refine w_iload_n dX35_doPrimitive_208 rfl rfl ?_
    refine w_bipush dX35_doPrimitive_209 (v := 47) (by decide) ?_
    refine w_icmp_lt 228 dX35_doPrimitive_211 (by decide) (fun c83 => ?_) (fun c83 => ?_)
    · replace hf := (if_pos (show p0 < (47 : Int32) from c83)).symm.trans hf
      exact (pX35_doPrimitive_b228 hd hdr hsE hsL hsN hf).to ⟨rfl, rfl, trivial⟩
    · replace hf := (if_neg (show ¬ (p0 < (47 : Int32)) from c83)).symm.trans hf
      refine w_iload_n dX35_doPrimitive_214 rfl rfl ?_
      refine w_bipush dX35_doPrimitive_215 (v := 69) (by decide) ?_
      refine w_icmp_gt 228 dX35_doPrimitive_217 (by decide) (fun c84 => ?_) (fun c84 => ?_)
      · replace hf := (if_pos (show (69 : Int32) < p0 from c84)).symm.trans hf
        exact (pX35_doPrimitive_b228 hd hdr hsE hsL hsN hf).to ⟨rfl, rfl, trivial⟩
      · replace hf := (if_neg (show ¬ ((69 : Int32) < p0) from c84)).symm.trans hf
        refine w_aload_n dX35_doPrimitive_220 rfl rfl ?_
        refine w_iload_n dX35_doPrimitive_221 rfl rfl ?_
        obtain ⟨_, b85, hf⟩ := Option.bind_eq_some_iff.mp hf
        refine x_cnV hf (e_stV (Yc := YX35_doList) (ci := 34) (av := [.int p0]) (st := []) dX35_doPrimitive_222 q6001 mX35_doList rfl (k_ok_some b85).1 (k_ok_some b85).2) mX35_doList.2.2.1 mX35_doList.2.2.2.2.1 (Nat.le_of_ble_eq_true rfl) (Nat.le_of_ble_eq_true rfl) (fun q hq => pX35_doList (by omega) hdr hsE hsL hsN hq) (fun q86 hf => ?_)
        refine w_goto 234 dX35_doPrimitive_225 (by decide) ?_
        exact (pX35_doPrimitive_b234 hd hdr hsE hsL hsN hf).to trivial
  replace hf := (if_neg c82).symm.trans hf
  by_cases c87 : p0 = (39 : Int32)
  · replace hf := (if_pos c87).symm.trans hf
    refine w_tableIn 201 dX35_doPrimitive_1 (by rw [c87]; decide) (by rw [c87]; decide) (by rw [c87]; rfl) (by decide) ?_
    refine w_aload_n dX35_doPrimitive_201 rfl rfl ?_
    obtain ⟨_, b88, hf⟩ := Option.bind_eq_some_iff.mp hf
    refine x_cnV hf (e_stV (Yc := YX35_prefixed) (ci := 34) (av := []) (st := []) dX35_doPrimitive_202 q5907 mX35_prefixed rfl (k_ok_some b88).1 (k_ok_some b88).2) mX35_prefixed.2.2.1 mX35_prefixed.2.2.2.2.1 (Nat.le_of_ble_eq_true rfl) (Nat.le_of_ble_eq_true rfl) (fun q hq => pX35_prefixed (by omega) hdr hsE hsL hsN hq) (fun q89 hf => ?_)
    refine w_goto 234 dX35_doPrimitive_205 (by decide) ?_
    exact (pX35_doPrimitive_b234 hd hdr hsE hsL hsN hf).to trivial
  replace hf := (if_neg c87).symm.trans hf
  by_cases c90 : p0 = (40 : Int32)
  · replace hf := (if_pos c90).symm.trans hf
    refine w_tableIn 208 dX35_doPrimitive_1 (by rw [c90]; decide) (by rw [c90]; decide) (by rw [c90]; rfl) (by decide) ?_
    refine w_iload_n dX35_doPrimitive_208 rfl rfl ?_
    refine w_bipush dX35_doPrimitive_209 (v := 47) (by decide) ?_
    refine w_icmp_lt 228 dX35_doPrimitive_211 (by decide) (fun c91 => ?_) (fun c91 => ?_)
    · replace hf := (if_pos (show p0 < (47 : Int32) from c91)).symm.trans hf
      exact (pX35_doPrimitive_b228 hd hdr hsE hsL hsN hf).to ⟨rfl, rfl, trivial⟩
    · replace hf := (if_neg (show ¬ (p0 < (47 : Int32)) from c91)).symm.trans hf
      refine w_iload_n dX35_doPrimitive_214 rfl rfl ?_
      refine w_bipush dX35_doPrimitive_215 (v := 69) (by decide) ?_
      refine w_icmp_gt 228 dX35_doPrimitive_217 (by decide) (fun c92 => ?_) (fun c92 => ?_)
      · replace hf := (if_pos (show (69 : Int32) < p0 from c92)).symm.trans hf
        exact (pX35_doPrimitive_b228 hd hdr hsE hsL hsN hf).to ⟨rfl, rfl, trivial⟩
      · replace hf := (if_neg (show ¬ ((69 : Int32) < p0) from c92)).symm.trans hf
        refine w_aload_n dX35_doPrimitive_220 rfl rfl ?_
        refine w_iload_n dX35_doPrimitive_221 rfl rfl ?_
        obtain ⟨_, b93, hf⟩ := Option.bind_eq_some_iff.mp hf
        refine x_cnV hf (e_stV (Yc := YX35_doList) (ci := 34) (av := [.int p0]) (st := []) dX35_doPrimitive_222 q6001 mX35_doList rfl (k_ok_some b93).1 (k_ok_some b93).2) mX35_doList.2.2.1 mX35_doList.2.2.2.2.1 (Nat.le_of_ble_eq_true rfl) (Nat.le_of_ble_eq_true rfl) (fun q hq => pX35_doList (by omega) hdr hsE hsL hsN hq) (fun q94 hf => ?_)
        refine w_goto 234 dX35_doPrimitive_225 (by decide) ?_
        exact (pX35_doPrimitive_b234 hd hdr hsE hsL hsN hf).to trivial
  replace hf := (if_neg c90).symm.trans hf
  by_cases c95 : p0 = (41 : Int32)
  · replace hf := (if_pos c95).symm.trans hf
    refine w_tableIn 208 dX35_doPrimitive_1 (by rw [c95]; decide) (by rw [c95]; decide) (by rw [c95]; rfl) (by decide) ?_
    refine w_iload_n dX35_doPrimitive_208 rfl rfl ?_
    refine w_bipush dX35_doPrimitive_209 (v := 47) (by decide) ?_
    refine w_icmp_lt 228 dX35_doPrimitive_211 (by decide) (fun c96 => ?_) (fun c96 => ?_)
    · replace hf := (if_pos (show p0 < (47 : Int32) from c96)).symm.trans hf
      exact (pX35_doPrimitive_b228 hd hdr hsE hsL hsN hf).to ⟨rfl, rfl, trivial⟩
    · replace hf := (if_neg (show ¬ (p0 < (47 : Int32)) from c96)).symm.trans hf
      refine w_iload_n dX35_doPrimitive_214 rfl rfl ?_
      refine w_bipush dX35_doPrimitive_215 (v := 69) (by decide) ?_
      refine w_icmp_gt 228 dX35_doPrimitive_217 (by decide) (fun c97 => ?_) (fun c97 => ?_)
      · replace hf := (if_pos (show (69 : Int32) < p0 from c97)).symm.trans hf
        exact (pX35_doPrimitive_b228 hd hdr hsE hsL hsN hf).to ⟨rfl, rfl, trivial⟩
      · replace hf := (if_neg (show ¬ ((69 : Int32) < p0) from c97)).symm.trans hf
        refine w_aload_n dX35_doPrimitive_220 rfl rfl ?_
        refine w_iload_n dX35_doPrimitive_221 rfl rfl ?_
        obtain ⟨_, b98, hf⟩ := Option.bind_eq_some_iff.mp hf
        refine x_cnV hf (e_stV (Yc := YX35_doList) (ci := 34) (av := [.int p0]) (st := []) dX35_doPrimitive_222 q6001 mX35_doList rfl (k_ok_some b98).1 (k_ok_some b98).2) mX35_doList.2.2.1 mX35_doList.2.2.2.2.1 (Nat.le_of_ble_eq_true rfl) (Nat.le_of_ble_eq_true rfl) (fun q hq => pX35_doList (by omega) hdr hsE hsL hsN hq) (fun q99 hf => ?_)
        refine w_goto 234 dX35_doPrimitive_225 (by decide) ?_
        exact (pX35_doPrimitive_b234 hd hdr hsE hsL hsN hf).to trivial
  replace hf := (if_neg c95).symm.trans hf
  by_cases c100 : p0 = (42 : Int32)
  · replace hf := (if_pos c100).symm.trans hf
    refine w_tableIn 208 dX35_doPrimitive_1 (by rw [c100]; decide) (by rw [c100]; decide) (by rw [c100]; rfl) (by decide) ?_
    refine w_iload_n dX35_doPrimitive_208 rfl rfl ?_
    refine w_bipush dX35_doPrimitive_209 (v := 47) (by decide) ?_
    refine w_icmp_lt 228 dX35_doPrimitive_211 (by decide) (fun c101 => ?_) (fun c101 => ?_)
    · replace hf := (if_pos (show p0 < (47 : Int32) from c101)).symm.trans hf
      exact (pX35_doPrimitive_b228 hd hdr hsE hsL hsN hf).to ⟨rfl, rfl, trivial⟩
    · replace hf := (if_neg (show ¬ (p0 < (47 : Int32)) from c101)).symm.trans hf
      refine w_iload_n dX35_doPrimitive_214 rfl rfl ?_
      refine w_bipush dX35_doPrimitive_215 (v := 69) (by decide) ?_
      refine w_icmp_gt 228 dX35_doPrimitive_217 (by decide) (fun c102 => ?_) (fun c102 => ?_)
      · replace hf := (if_pos (show (69 : Int32) < p0 from c102)).symm.trans hf
        exact (pX35_doPrimitive_b228 hd hdr hsE hsL hsN hf).to ⟨rfl, rfl, trivial⟩
      · replace hf := (if_neg (show ¬ ((69 : Int32) < p0) from c102)).symm.trans hf
        refine w_aload_n dX35_doPrimitive_220 rfl rfl ?_
        refine w_iload_n dX35_doPrimitive_221 rfl rfl ?_
        obtain ⟨_, b103, hf⟩ := Option.bind_eq_some_iff.mp hf
        refine x_cnV hf (e_stV (Yc := YX35_doList) (ci := 34) (av := [.int p0]) (st := []) dX35_doPrimitive_222 q6001 mX35_doList rfl (k_ok_some b103).1 (k_ok_some b103).2) mX35_doList.2.2.1 mX35_doList.2.2.2.2.1 (Nat.le_of_ble_eq_true rfl) (Nat.le_of_ble_eq_true rfl) (fun q hq => pX35_doList (by omega) hdr hsE hsL hsN hq) (fun q104 hf => ?_)
        refine w_goto 234 dX35_doPrimitive_225 (by decide) ?_
        exact (pX35_doPrimitive_b234 hd hdr hsE hsL hsN hf).to trivial
  replace hf := (if_neg c100).symm.trans hf
  by_cases c105 : p0 = (43 : Int32)
  · replace hf := (if_pos c105).symm.trans hf
    refine w_tableIn 208 dX35_doPrimitive_1 (by rw [c105]; decide) (by rw [c105]; decide) (by rw [c105]; rfl) (by decide) ?_
    refine w_iload_n dX35_doPrimitive_208 rfl rfl ?_
    refine w_bipush dX35_doPrimitive_209 (v := 47) (by decide) ?_
    refine w_icmp_lt 228 dX35_doPrimitive_211 (by decide) (fun c106 => ?_) (fun c106 => ?_)
    · replace hf := (if_pos (show p0 < (47 : Int32) from c106)).symm.trans hf
      exact (pX35_doPrimitive_b228 hd hdr hsE hsL hsN hf).to ⟨rfl, rfl, trivial⟩
    · replace hf := (if_neg (show ¬ (p0 < (47 : Int32)) from c106)).symm.trans hf
      refine w_iload_n dX35_doPrimitive_214 rfl rfl ?_
      refine w_bipush dX35_doPrimitive_215 (v := 69) (by decide) ?_
      refine w_icmp_gt 228 dX35_doPrimitive_217 (by decide) (fun c107 => ?_) (fun c107 => ?_)
      · replace hf := (if_pos (show (69 : Int32) < p0 from c107)).symm.trans hf
        exact (pX35_doPrimitive_b228 hd hdr hsE hsL hsN hf).to ⟨rfl, rfl, trivial⟩
      · replace hf := (if_neg (show ¬ ((69 : Int32) < p0) from c107)).symm.trans hf
        refine w_aload_n dX35_doPrimitive_220 rfl rfl ?_
        refine w_iload_n dX35_doPrimitive_221 rfl rfl ?_
        obtain ⟨_, b108, hf⟩ := Option.bind_eq_some_iff.mp hf
        refine x_cnV hf (e_stV (Yc := YX35_doList) (ci := 34) (av := [.int p0]) (st := []) dX35_doPrimitive_222 q6001 mX35_doList rfl (k_ok_some b108).1 (k_ok_some b108).2) mX35_doList.2.2.1 mX35_doList.2.2.2.2.1 (Nat.le_of_ble_eq_true rfl) (Nat.le_of_ble_eq_true rfl) (fun q hq => pX35_doList (by omega) hdr hsE hsL hsN hq) (fun q109 hf => ?_)
        refine w_goto 234 dX35_doPrimitive_225 (by decide) ?_
        exact (pX35_doPrimitive_b234 hd hdr hsE hsL hsN hf).to trivial
  replace hf := (if_neg c105).symm.trans hf
  by_cases c110 : p0 = (44 : Int32)
  · replace hf := (if_pos c110).symm.trans hf
    refine w_tableIn 192 dX35_doPrimitive_1 (by rw [c110]; decide) (by rw [c110]; decide) (by rw [c110]; rfl) (by decide) ?_
    refine w_aload_n dX35_doPrimitive_192 rfl rfl ?_
    refine w_bipush dX35_doPrimitive_193 (v := 6) (by decide) ?_
    obtain ⟨_, b111, hf⟩ := Option.bind_eq_some_iff.mp hf
    refine x_cnV hf (e_stV (Yc := YX35_fail) (ci := 34) (av := [.int (6 : Int32)]) (st := []) dX35_doPrimitive_195 q5109 mX35_fail rfl (k_ok_some b111).1 (k_ok_some b111).2) mX35_fail.2.2.1 mX35_fail.2.2.2.2.1 (Nat.le_of_ble_eq_true rfl) (Nat.le_of_ble_eq_true rfl) (fun q hq => pX35_fail (by omega) hq) (fun q112 hf => ?_)
    refine w_goto 234 dX35_doPrimitive_198 (by decide) ?_
    exact (pX35_doPrimitive_b234 hd hdr hsE hsL hsN hf).to trivial
  replace hf := (if_neg c110).symm.trans hf
  by_cases c113 : p0 = (45 : Int32)
  · replace hf := (if_pos c113).symm.trans hf
    refine w_tableIn 192 dX35_doPrimitive_1 (by rw [c113]; decide) (by rw [c113]; decide) (by rw [c113]; rfl) (by decide) ?_
    refine w_aload_n dX35_doPrimitive_192 rfl rfl ?_
    refine w_bipush dX35_doPrimitive_193 (v := 6) (by decide) ?_
    obtain ⟨_, b114, hf⟩ := Option.bind_eq_some_iff.mp hf
    refine x_cnV hf (e_stV (Yc := YX35_fail) (ci := 34) (av := [.int (6 : Int32)]) (st := []) dX35_doPrimitive_195 q5109 mX35_fail rfl (k_ok_some b114).1 (k_ok_some b114).2) mX35_fail.2.2.1 mX35_fail.2.2.2.2.1 (Nat.le_of_ble_eq_true rfl) (Nat.le_of_ble_eq_true rfl) (fun q hq => pX35_fail (by omega) hq) (fun q115 hf => ?_)
    refine w_goto 234 dX35_doPrimitive_198 (by decide) ?_
    exact (pX35_doPrimitive_b234 hd hdr hsE hsL hsN hf).to trivial
  replace hf := (if_neg c113).symm.trans hf
  by_cases c116 : p0 = (46 : Int32)
  · replace hf := (if_pos c116).symm.trans hf
    refine w_tableIn 192 dX35_doPrimitive_1 (by rw [c116]; decide) (by rw [c116]; decide) (by rw [c116]; rfl) (by decide) ?_
    refine w_aload_n dX35_doPrimitive_192 rfl rfl ?_
    refine w_bipush dX35_doPrimitive_193 (v := 6) (by decide) ?_
    obtain ⟨_, b117, hf⟩ := Option.bind_eq_some_iff.mp hf
    refine x_cnV hf (e_stV (Yc := YX35_fail) (ci := 34) (av := [.int (6 : Int32)]) (st := []) dX35_doPrimitive_195 q5109 mX35_fail rfl (k_ok_some b117).1 (k_ok_some b117).2) mX35_fail.2.2.1 mX35_fail.2.2.2.2.1 (Nat.le_of_ble_eq_true rfl) (Nat.le_of_ble_eq_true rfl) (fun q hq => pX35_fail (by omega) hq) (fun q118 hf => ?_)
    refine w_goto 234 dX35_doPrimitive_198 (by decide) ?_
    exact (pX35_doPrimitive_b234 hd hdr hsE hsL hsN hf).to trivial
  replace hf := (if_neg c116).symm.trans hf
  refine w_tableOut 208 dX35_doPrimitive_1 (by have n0 := sw_ne c1 (by decide : (22 : Int32).toInt = 22); have n1 := sw_ne c2 (by decide : (23 : Int32).toInt = 23); have n2 := sw_ne c8 (by decide : (24 : Int32).toInt = 24); have n3 := sw_ne c11 (by decide : (25 : Int32).toInt = 25); have n4 := sw_ne c26 (by decide : (26 : Int32).toInt = 26); have n5 := sw_ne c29 (by decide : (27 : Int32).toInt = 27); have n6 := sw_ne c32 (by decide : (28 : Int32).toInt = 28); have n7 := sw_ne c37 (by decide : (29 : Int32).toInt = 29); have n8 := sw_ne c42 (by decide : (30 : Int32).toInt = 30); have n9 := sw_ne c47 (by decide : (31 : Int32).toInt = 31); have n10 := sw_ne c52 (by decide : (32 : Int32).toInt = 32); have n11 := sw_ne c57 (by decide : (33 : Int32).toInt = 33); have n12 := sw_ne c62 (by decide : (34 : Int32).toInt = 34); have n13 := sw_ne c67 (by decide : (35 : Int32).toInt = 35); have n14 := sw_ne c72 (by decide : (36 : Int32).toInt = 36); have n15 := sw_ne c77 (by decide : (37 : Int32).toInt = 37); have n16 := sw_ne c82 (by decide : (38 : Int32).toInt = 38); have n17 := sw_ne c87 (by decide : (39 : Int32).toInt = 39); have n18 := sw_ne c90 (by decide : (40 : Int32).toInt = 40); have n19 := sw_ne c95 (by decide : (41 : Int32).toInt = 41); have n20 := sw_ne c100 (by decide : (42 : Int32).toInt = 42); have n21 := sw_ne c105 (by decide : (43 : Int32).toInt = 43); have n22 := sw_ne c110 (by decide : (44 : Int32).toInt = 44); have n23 := sw_ne c113 (by decide : (45 : Int32).toInt = 45); have n24 := sw_ne c116 (by decide : (46 : Int32).toInt = 46); omega) (by decide) ?_
  refine w_iload_n dX35_doPrimitive_208 rfl rfl ?_
  refine w_bipush dX35_doPrimitive_209 (v := 47) (by decide) ?_
  refine w_icmp_lt 228 dX35_doPrimitive_211 (by decide) (fun c119 => ?_) (fun c119 => ?_)
  · replace hf := (if_pos (show p0 < (47 : Int32) from c119)).symm.trans hf
    exact (pX35_doPrimitive_b228 hd hdr hsE hsL hsN hf).to ⟨rfl, rfl, trivial⟩
  · replace hf := (if_neg (show ¬ (p0 < (47 : Int32)) from c119)).symm.trans hf
    refine w_iload_n dX35_doPrimitive_214 rfl rfl ?_
    refine w_bipush dX35_doPrimitive_215 (v := 69) (by decide) ?_
    refine w_icmp_gt 228 dX35_doPrimitive_217 (by decide) (fun c120 => ?_) (fun c120 => ?_)
    · replace hf := (if_pos (show (69 : Int32) < p0 from c120)).symm.trans hf
      exact (pX35_doPrimitive_b228 hd hdr hsE hsL hsN hf).to ⟨rfl, rfl, trivial⟩
    · replace hf := (if_neg (show ¬ ((69 : Int32) < p0) from c120)).symm.trans hf
      refine w_aload_n dX35_doPrimitive_220 rfl rfl ?_
      refine w_iload_n dX35_doPrimitive_221 rfl rfl ?_
      obtain ⟨_, b121, hf⟩ := Option.bind_eq_some_iff.mp hf
      refine x_cnV hf (e_stV (Yc := YX35_doList) (ci := 34) (av := [.int p0]) (st := []) dX35_doPrimitive_222 q6001 mX35_doList rfl (k_ok_some b121).1 (k_ok_some b121).2) mX35_doList.2.2.1 mX35_doList.2.2.2.2.1 (Nat.le_of_ble_eq_true rfl) (Nat.le_of_ble_eq_true rfl) (fun q hq => pX35_doList (by omega) hdr hsE hsL hsN hq) (fun q122 hf => ?_)
      refine w_goto 234 dX35_doPrimitive_225 (by decide) ?_
      exact (pX35_doPrimitive_b234 hd hdr hsE hsL hsN hf).to trivial
abbrev cX35_done : ByteArray := prog_37_method_173_code
def yX35_done : MethodName := ⟨RX35, "done", "(I)V"⟩
def YX35_done : eY := (yX35_done, cX35_done, 4, none, [])
theorem mX35_done : e_mv YX35_done RX35 1 := ⟨q5439, qs306, q5440, by decide, by decide +kernel, (e_sig (by decide +kernel))⟩
theorem dX35_done_0 : decode cX35_done 0 = .ok (.aload_n 0, 1) := dc_42 (by decide +kernel)
theorem dX35_done_1 : decode cX35_done 1 = .ok (.iload_n 1, 1) := dc_27 (by decide +kernel)
theorem dX35_done_2 : decode cX35_done 2 = .ok (.invokevirtual 474, 3) := dc_182 (a := 1) (b := 218) (n := 474) (by decide +kernel)
theorem dX35_done_5 : decode cX35_done 5 = .ok (.istore_n 2, 1) := dc_61 (by decide +kernel)
theorem dX35_done_6 : decode cX35_done 6 = .ok (.iload_n 2, 1) := dc_28 (by decide +kernel)
theorem dX35_done_7 : decode cX35_done 7 = .ok (.ldc_w 470, 3) := dc_19 (a := 1) (b := 214) (n := 470) (by decide +kernel)
theorem dX35_done_10 : decode cX35_done 10 = .ok (.if_icmp .lt 22, 3) := dc_161 (a := 0) (b := 22) (v := 22) (by decide +kernel)
theorem dX35_done_13 : decode cX35_done 13 = .ok (.iload_n 2, 1) := dc_28 (by decide +kernel)
theorem dX35_done_14 : decode cX35_done 14 = .ok (.ldc_w 606, 3) := dc_19 (a := 2) (b := 94) (n := 606) (by decide +kernel)
theorem dX35_done_17 : decode cX35_done 17 = .ok (.if_icmp .ge 15, 3) := dc_162 (a := 0) (b := 15) (v := 15) (by decide +kernel)
theorem dX35_done_20 : decode cX35_done 20 = .ok (.aload_n 0, 1) := dc_42 (by decide +kernel)
theorem dX35_done_21 : decode cX35_done 21 = .ok (.iload_n 2, 1) := dc_28 (by decide +kernel)
theorem dX35_done_22 : decode cX35_done 22 = .ok (.ldc_w 470, 3) := dc_19 (a := 1) (b := 214) (n := 470) (by decide +kernel)
theorem dX35_done_25 : decode cX35_done 25 = .ok (.isub, 1) := dc_100 (by decide +kernel)
theorem dX35_done_26 : decode cX35_done 26 = .ok (.invokevirtual 1169, 3) := dc_182 (a := 4) (b := 145) (n := 1169) (by decide +kernel)
theorem dX35_done_29 : decode cX35_done 29 = .ok (.goto 141, 3) := dc_167 (a := 0) (b := 141) (v := 141) (by decide +kernel)
theorem dX35_done_32 : decode cX35_done 32 = .ok (.iload_n 2, 1) := dc_28 (by decide +kernel)
theorem dX35_done_33 : decode cX35_done 33 = .ok (.ldc_w 606, 3) := dc_19 (a := 2) (b := 94) (n := 606) (by decide +kernel)
theorem dX35_done_36 : decode cX35_done 36 = .ok (.if_icmp .lt 22, 3) := dc_161 (a := 0) (b := 22) (v := 22) (by decide +kernel)
theorem dX35_done_39 : decode cX35_done 39 = .ok (.iload_n 2, 1) := dc_28 (by decide +kernel)
theorem dX35_done_40 : decode cX35_done 40 = .ok (.ldc_w 633, 3) := dc_19 (a := 2) (b := 121) (n := 633) (by decide +kernel)
theorem dX35_done_43 : decode cX35_done 43 = .ok (.if_icmp .ge 15, 3) := dc_162 (a := 0) (b := 15) (v := 15) (by decide +kernel)
theorem dX35_done_46 : decode cX35_done 46 = .ok (.aload_n 0, 1) := dc_42 (by decide +kernel)
theorem dX35_done_47 : decode cX35_done 47 = .ok (.iload_n 2, 1) := dc_28 (by decide +kernel)
theorem dX35_done_48 : decode cX35_done 48 = .ok (.ldc_w 606, 3) := dc_19 (a := 2) (b := 94) (n := 606) (by decide +kernel)
theorem dX35_done_51 : decode cX35_done 51 = .ok (.isub, 1) := dc_100 (by decide +kernel)
theorem dX35_done_52 : decode cX35_done 52 = .ok (.invokevirtual 1160, 3) := dc_182 (a := 4) (b := 136) (n := 1160) (by decide +kernel)
theorem dX35_done_55 : decode cX35_done 55 = .ok (.goto 115, 3) := dc_167 (a := 0) (b := 115) (v := 115) (by decide +kernel)
theorem dX35_done_58 : decode cX35_done 58 = .ok (.iload_n 2, 1) := dc_28 (by decide +kernel)
theorem dX35_done_59 : decode cX35_done 59 = .ok (.sipush 1051, 3) := dc_17 (a := 4) (b := 27) (v := 1051) (by decide +kernel)
theorem dX35_done_62 : decode cX35_done 62 = .ok (.if_icmp .ne 38, 3) := dc_160 (a := 0) (b := 38) (v := 38) (by decide +kernel)
theorem dX35_done_65 : decode cX35_done 65 = .ok (.aload_n 0, 1) := dc_42 (by decide +kernel)
theorem dX35_done_66 : decode cX35_done 66 = .ok (.invokevirtual 810, 3) := dc_182 (a := 3) (b := 42) (n := 810) (by decide +kernel)
theorem dX35_done_69 : decode cX35_done 69 = .ok (.ifCond .eq 8, 3) := dc_153 (a := 0) (b := 8) (v := 8) (by decide +kernel)
theorem dX35_done_72 : decode cX35_done 72 = .ok (.aload_n 0, 1) := dc_42 (by decide +kernel)
theorem dX35_done_73 : decode cX35_done 73 = .ok (.iconst 1, 1) := dc_4 (by decide +kernel)
theorem dX35_done_74 : decode cX35_done 74 = .ok (.invokevirtual 869, 3) := dc_182 (a := 3) (b := 101) (n := 869) (by decide +kernel)
theorem dX35_done_77 : decode cX35_done 77 = .ok (.aload_n 0, 1) := dc_42 (by decide +kernel)
theorem dX35_done_78 : decode cX35_done 78 = .ok (.sipush 255, 3) := dc_17 (a := 0) (b := 255) (v := 255) (by decide +kernel)
theorem dX35_done_81 : decode cX35_done 81 = .ok (.invokevirtual 590, 3) := dc_182 (a := 2) (b := 78) (n := 590) (by decide +kernel)
theorem dX35_done_84 : decode cX35_done 84 = .ok (.istore_n 3, 1) := dc_62 (by decide +kernel)
theorem dX35_done_85 : decode cX35_done 85 = .ok (.aload_n 0, 1) := dc_42 (by decide +kernel)
theorem dX35_done_86 : decode cX35_done 86 = .ok (.getfield 321, 3) := dc_180 (a := 1) (b := 65) (n := 321) (by decide +kernel)
theorem dX35_done_89 : decode cX35_done 89 = .ok (.ifCond .ne 8, 3) := dc_154 (a := 0) (b := 8) (v := 8) (by decide +kernel)
theorem dX35_done_92 : decode cX35_done 92 = .ok (.aload_n 0, 1) := dc_42 (by decide +kernel)
theorem dX35_done_93 : decode cX35_done 93 = .ok (.iload_n 3, 1) := dc_29 (by decide +kernel)
theorem dX35_done_94 : decode cX35_done 94 = .ok (.invokevirtual 1160, 3) := dc_182 (a := 4) (b := 136) (n := 1160) (by decide +kernel)
theorem dX35_done_97 : decode cX35_done 97 = .ok (.goto 73, 3) := dc_167 (a := 0) (b := 73) (v := 73) (by decide +kernel)
theorem dX35_done_100 : decode cX35_done 100 = .ok (.aload_n 0, 1) := dc_42 (by decide +kernel)
theorem dX35_done_101 : decode cX35_done 101 = .ok (.invokevirtual 873, 3) := dc_182 (a := 3) (b := 105) (n := 873) (by decide +kernel)
theorem dX35_done_104 : decode cX35_done 104 = .ok (.aload_n 0, 1) := dc_42 (by decide +kernel)
theorem dX35_done_105 : decode cX35_done 105 = .ok (.getfield 321, 3) := dc_180 (a := 1) (b := 65) (n := 321) (by decide +kernel)
theorem dX35_done_108 : decode cX35_done 108 = .ok (.ifCond .ne 16, 3) := dc_154 (a := 0) (b := 16) (v := 16) (by decide +kernel)
theorem dX35_done_111 : decode cX35_done 111 = .ok (.iload_n 2, 1) := dc_28 (by decide +kernel)
theorem dX35_done_112 : decode cX35_done 112 = .ok (.ifCond .ne 12, 3) := dc_154 (a := 0) (b := 12) (v := 12) (by decide +kernel)
theorem dX35_done_115 : decode cX35_done 115 = .ok (.aload_n 0, 1) := dc_42 (by decide +kernel)
theorem dX35_done_116 : decode cX35_done 116 = .ok (.bipush 11, 2) := dc_16 (a := 11) (v := 11) (by decide +kernel)
theorem dX35_done_118 : decode cX35_done 118 = .ok (.invokevirtual 428, 3) := dc_182 (a := 1) (b := 172) (n := 428) (by decide +kernel)
theorem dX35_done_121 : decode cX35_done 121 = .ok (.goto 49, 3) := dc_167 (a := 0) (b := 49) (v := 49) (by decide +kernel)
theorem dX35_done_124 : decode cX35_done 124 = .ok (.aload_n 0, 1) := dc_42 (by decide +kernel)
theorem dX35_done_125 : decode cX35_done 125 = .ok (.getfield 321, 3) := dc_180 (a := 1) (b := 65) (n := 321) (by decide +kernel)
theorem dX35_done_128 : decode cX35_done 128 = .ok (.ifCond .ne 26, 3) := dc_154 (a := 0) (b := 26) (v := 26) (by decide +kernel)
theorem dX35_done_131 : decode cX35_done 131 = .ok (.iload_n 2, 1) := dc_28 (by decide +kernel)
theorem dX35_done_132 : decode cX35_done 132 = .ok (.ldc_w 633, 3) := dc_19 (a := 2) (b := 121) (n := 633) (by decide +kernel)
theorem dX35_done_135 : decode cX35_done 135 = .ok (.if_icmp .lt 19, 3) := dc_161 (a := 0) (b := 19) (v := 19) (by decide +kernel)
theorem dX35_done_138 : decode cX35_done 138 = .ok (.aload_n 0, 1) := dc_42 (by decide +kernel)
theorem dX35_done_139 : decode cX35_done 139 = .ok (.sipush 3811, 3) := dc_17 (a := 14) (b := 227) (v := 3811) (by decide +kernel)
theorem dX35_done_142 : decode cX35_done 142 = .ok (.iload_n 2, 1) := dc_28 (by decide +kernel)
theorem dX35_done_143 : decode cX35_done 143 = .ok (.ldc_w 633, 3) := dc_19 (a := 2) (b := 121) (n := 633) (by decide +kernel)
theorem dX35_done_146 : decode cX35_done 146 = .ok (.isub, 1) := dc_100 (by decide +kernel)
theorem dX35_done_147 : decode cX35_done 147 = .ok (.iconst 0, 1) := dc_3 (by decide +kernel)
theorem dX35_done_148 : decode cX35_done 148 = .ok (.invokevirtual 477, 3) := dc_182 (a := 1) (b := 221) (n := 477) (by decide +kernel)
theorem dX35_done_151 : decode cX35_done 151 = .ok (.goto 19, 3) := dc_167 (a := 0) (b := 19) (v := 19) (by decide +kernel)
theorem dX35_done_154 : decode cX35_done 154 = .ok (.aload_n 0, 1) := dc_42 (by decide +kernel)
theorem dX35_done_155 : decode cX35_done 155 = .ok (.getfield 321, 3) := dc_180 (a := 1) (b := 65) (n := 321) (by decide +kernel)
theorem dX35_done_158 : decode cX35_done 158 = .ok (.ifCond .ne 12, 3) := dc_154 (a := 0) (b := 12) (v := 12) (by decide +kernel)
theorem dX35_done_161 : decode cX35_done 161 = .ok (.aload_n 0, 1) := dc_42 (by decide +kernel)
theorem dX35_done_162 : decode cX35_done 162 = .ok (.iload_n 2, 1) := dc_28 (by decide +kernel)
theorem dX35_done_163 : decode cX35_done 163 = .ok (.sipush 1000, 3) := dc_17 (a := 3) (b := 232) (v := 1000) (by decide +kernel)
theorem dX35_done_166 : decode cX35_done 166 = .ok (.isub, 1) := dc_100 (by decide +kernel)
theorem dX35_done_167 : decode cX35_done 167 = .ok (.invokevirtual 1172, 3) := dc_182 (a := 4) (b := 148) (n := 1172) (by decide +kernel)
theorem dX35_done_170 : decode cX35_done 170 = .ok (.return_, 1) := dc_177 (by decide +kernel)
def fX35_done_b170 (N : Nat) (sE : Nat → Int32 → eH → Option (Unit × eH)) (sL : Nat → Int32 → Int64 → Int64 → eH → Option (Int32 × eH)) (sN : Nat → eH → Option (Int32 × eH))  (h : eH) : Option (Unit × eH) :=
  some ((), h)
theorem pX35_done_b170 {w : eW} {d : Nat} {dr : Nat} (hd : dr + 19 ≤ d + 1) (hdr : 12 ≤ dr) {N : Nat} {sE : Nat → Int32 → eH → Option (Unit × eH)} {sL : Nat → Int32 → Int64 → Int64 → eH → Option (Int32 × eH)} {sN : Nat → eH → Option (Int32 × eH)} (hsE : ∀ a t0 h q, sE a t0 h = some q → wm w dr YX35_expand [.ref a, .int t0] h (e_is (e_rn c_V q))) (hsL : ∀ a t0 t1 t2 h q, sL a t0 t1 t2 h = some q → wm w dr YX35_layBox [.ref a, .int t0, .long t1, .long t2] h (e_is (e_rn c_I q))) (hsN : ∀ a h q, sN a h = some q → wm w dr YX35_number [.ref a] h (e_is (e_rn c_I q)))  {h : eH} {q} (hf : fX35_done_b170 N sE sL sN h = some q) : wp w (d + 1) YX35_done 170 [none, none, none, none] [] h (e_is (e_rn c_V q)) := by
  unfold fX35_done_b170 at hf
  cases hf
  exact w_vret dX35_done_170 rfl rfl
def fX35_done_b97 (N : Nat) (sE : Nat → Int32 → eH → Option (Unit × eH)) (sL : Nat → Int32 → Int64 → Int64 → eH → Option (Int32 × eH)) (sN : Nat → eH → Option (Int32 × eH))  (h : eH) : Option (Unit × eH) :=
  fX35_done_b170 N sE sL sN h
theorem pX35_done_b97 {w : eW} {d : Nat} {dr : Nat} (hd : dr + 19 ≤ d + 1) (hdr : 12 ≤ dr) {N : Nat} {sE : Nat → Int32 → eH → Option (Unit × eH)} {sL : Nat → Int32 → Int64 → Int64 → eH → Option (Int32 × eH)} {sN : Nat → eH → Option (Int32 × eH)} (hsE : ∀ a t0 h q, sE a t0 h = some q → wm w dr YX35_expand [.ref a, .int t0] h (e_is (e_rn c_V q))) (hsL : ∀ a t0 t1 t2 h q, sL a t0 t1 t2 h = some q → wm w dr YX35_layBox [.ref a, .int t0, .long t1, .long t2] h (e_is (e_rn c_I q))) (hsN : ∀ a h q, sN a h = some q → wm w dr YX35_number [.ref a] h (e_is (e_rn c_I q)))  {h : eH} {q} (hf : fX35_done_b97 N sE sL sN h = some q) : wp w (d + 1) YX35_done 97 [none, none, none, none] [] h (e_is (e_rn c_V q)) := by
  unfold fX35_done_b97 at hf
  refine w_goto 170 dX35_done_97 (by decide) ?_
  exact (pX35_done_b170 hd hdr hsE hsL hsN hf).to trivial
def fX35_done_b77 (N : Nat) (sE : Nat → Int32 → eH → Option (Unit × eH)) (sL : Nat → Int32 → Int64 → Int64 → eH → Option (Int32 × eH)) (sN : Nat → eH → Option (Int32 × eH)) (l0 : Nat) (h : eH) : Option (Unit × eH) :=
  (k_ok 34 h l0).bind fun _ =>
  (fX35_small sN l0 (255 : Int32) h).bind fun q2 =>
  (g_I 34 q2.2 l0 46).bind fun x3 =>
  if ¬ x3 = 0 then
    fX35_done_b97 N sE sL sN q2.2
  else
    (k_ok 34 q2.2 l0).bind fun _ =>
    (fX35_character N sL l0 q2.1 q2.2).bind fun q7 =>
    fX35_done_b97 N sE sL sN q7.2
theorem pX35_done_b77 {w : eW} {d : Nat} {dr : Nat} (hd : dr + 19 ≤ d + 1) (hdr : 12 ≤ dr) {N : Nat} {sE : Nat → Int32 → eH → Option (Unit × eH)} {sL : Nat → Int32 → Int64 → Int64 → eH → Option (Int32 × eH)} {sN : Nat → eH → Option (Int32 × eH)} (hsE : ∀ a t0 h q, sE a t0 h = some q → wm w dr YX35_expand [.ref a, .int t0] h (e_is (e_rn c_V q))) (hsL : ∀ a t0 t1 t2 h q, sL a t0 t1 t2 h = some q → wm w dr YX35_layBox [.ref a, .int t0, .long t1, .long t2] h (e_is (e_rn c_I q))) (hsN : ∀ a h q, sN a h = some q → wm w dr YX35_number [.ref a] h (e_is (e_rn c_I q))) {l0 : Nat} {h : eH} {q} (hf : fX35_done_b77 N sE sL sN l0 h = some q) : wp w (d + 1) YX35_done 77 [some (.ref l0), none, none, none] [] h (e_is (e_rn c_V q)) := by
  unfold fX35_done_b77 at hf
  refine w_aload_n dX35_done_77 rfl rfl ?_
  refine w_sipush dX35_done_78 (v := 255) (by decide) ?_
  obtain ⟨_, b1, hf⟩ := Option.bind_eq_some_iff.mp hf
  refine x_cnI hf (e_stV (Yc := YX35_small) (ci := 34) (av := [.int (255 : Int32)]) (st := []) dX35_done_81 q5271 mX35_small rfl (k_ok_some b1).1 (k_ok_some b1).2) mX35_small.2.2.1 mX35_small.2.2.2.2.1 (Nat.le_of_ble_eq_true rfl) (Nat.le_of_ble_eq_true rfl) (fun q hq => pX35_small (by omega) hdr hsN hq) (fun q2 hf => ?_)
  refine w_istore_n dX35_done_84 rfl (by decide) (ls' := [some (.ref l0), none, none, some (.int q2.1)]) rfl ?_
  refine w_aload_n dX35_done_85 rfl rfl ?_
  obtain ⟨x3, b4, hf⟩ := Option.bind_eq_some_iff.mp hf
  refine GX35_321 b4 dX35_done_86 rfl ?_
  refine w_if_ne 97 dX35_done_89 (by decide) (fun c5 => ?_) (fun c5 => ?_)
  · replace hf := (if_pos (show ¬ x3 = 0 from c5)).symm.trans hf
    exact (pX35_done_b97 hd hdr hsE hsL hsN hf).to trivial
  · replace hf := (if_neg (show ¬ (¬ x3 = 0) from (fun z => z c5))).symm.trans hf
    refine w_aload_n dX35_done_92 rfl rfl ?_
    refine w_iload_n dX35_done_93 rfl rfl ?_
    obtain ⟨_, b6, hf⟩ := Option.bind_eq_some_iff.mp hf
    refine x_cnV hf (e_stV (Yc := YX35_character) (ci := 34) (av := [.int q2.1]) (st := []) dX35_done_94 q5445 mX35_character rfl (k_ok_some b6).1 (k_ok_some b6).2) mX35_character.2.2.1 mX35_character.2.2.2.2.1 (Nat.le_of_ble_eq_true rfl) (Nat.le_of_ble_eq_true rfl) (fun q hq => pX35_character (by omega) hdr hsL hq) (fun q7 hf => ?_)
    exact (pX35_done_b97 hd hdr hsE hsL hsN hf).to trivial
def fX35_done_b154 (N : Nat) (sE : Nat → Int32 → eH → Option (Unit × eH)) (sL : Nat → Int32 → Int64 → Int64 → eH → Option (Int32 × eH)) (sN : Nat → eH → Option (Int32 × eH)) (l0 : Nat) (l2 : Int32) (h : eH) : Option (Unit × eH) :=
  (g_I 34 h l0 46).bind fun x1 =>
  if ¬ x1 = 0 then
    fX35_done_b170 N sE sL sN h
  else
    (k_ok 34 h l0).bind fun _ =>
    (fX35_doPrimitive N sE sL sN l0 (l2 - (1000 : Int32)) h).bind fun q5 =>
    fX35_done_b170 N sE sL sN q5.2
theorem pX35_done_b154 {w : eW} {d : Nat} {dr : Nat} (hd : dr + 19 ≤ d + 1) (hdr : 12 ≤ dr) {N : Nat} {sE : Nat → Int32 → eH → Option (Unit × eH)} {sL : Nat → Int32 → Int64 → Int64 → eH → Option (Int32 × eH)} {sN : Nat → eH → Option (Int32 × eH)} (hsE : ∀ a t0 h q, sE a t0 h = some q → wm w dr YX35_expand [.ref a, .int t0] h (e_is (e_rn c_V q))) (hsL : ∀ a t0 t1 t2 h q, sL a t0 t1 t2 h = some q → wm w dr YX35_layBox [.ref a, .int t0, .long t1, .long t2] h (e_is (e_rn c_I q))) (hsN : ∀ a h q, sN a h = some q → wm w dr YX35_number [.ref a] h (e_is (e_rn c_I q))) {l0 : Nat} {l2 : Int32} {h : eH} {q} (hf : fX35_done_b154 N sE sL sN l0 l2 h = some q) : wp w (d + 1) YX35_done 154 [some (.ref l0), none, some (.int l2), none] [] h (e_is (e_rn c_V q)) := by
  unfold fX35_done_b154 at hf
  refine w_aload_n dX35_done_154 rfl rfl ?_
  obtain ⟨x1, b2, hf⟩ := Option.bind_eq_some_iff.mp hf
  refine GX35_321 b2 dX35_done_155 rfl ?_
  refine w_if_ne 170 dX35_done_158 (by decide) (fun c3 => ?_) (fun c3 => ?_)
  · replace hf := (if_pos (show ¬ x1 = 0 from c3)).symm.trans hf
    exact (pX35_done_b170 hd hdr hsE hsL hsN hf).to trivial
  · replace hf := (if_neg (show ¬ (¬ x1 = 0) from (fun z => z c3))).symm.trans hf
    refine w_aload_n dX35_done_161 rfl rfl ?_
    refine w_iload_n dX35_done_162 rfl rfl ?_
    refine w_sipush dX35_done_163 (v := 1000) (by decide) ?_
    refine w_isub dX35_done_166 ?_
    obtain ⟨_, b4, hf⟩ := Option.bind_eq_some_iff.mp hf
    refine x_cnV hf (e_stV (Yc := YX35_doPrimitive) (ci := 34) (av := [.int (l2 - (1000 : Int32))]) (st := []) dX35_done_167 q5903 mX35_doPrimitive rfl (k_ok_some b4).1 (k_ok_some b4).2) mX35_doPrimitive.2.2.1 mX35_doPrimitive.2.2.2.2.1 (Nat.le_of_ble_eq_true rfl) (Nat.le_of_ble_eq_true rfl) (fun q hq => pX35_doPrimitive (by omega) hdr hsE hsL hsN hq) (fun q5 hf => ?_)
    exact (pX35_done_b170 hd hdr hsE hsL hsN hf).to trivial
def fX35_done_b124 (N : Nat) (sE : Nat → Int32 → eH → Option (Unit × eH)) (sL : Nat → Int32 → Int64 → Int64 → eH → Option (Int32 × eH)) (sN : Nat → eH → Option (Int32 × eH)) (l0 : Nat) (l2 : Int32) (h : eH) : Option (Unit × eH) :=
  (g_I 34 h l0 46).bind fun x1 =>
  if ¬ x1 = 0 then
    fX35_done_b154 N sE sL sN l0 l2 h
  else
    if l2 < (4000000 : Int32) then
      fX35_done_b154 N sE sL sN l0 l2 h
    else
      (k_ok 34 h l0).bind fun _ =>
      (fX35_setAt N l0 (3811 : Int32) (l2 - (4000000 : Int32)) (0 : Int32) h).bind fun q6 =>
      fX35_done_b170 N sE sL sN q6.2
theorem pX35_done_b124 {w : eW} {d : Nat} {dr : Nat} (hd : dr + 19 ≤ d + 1) (hdr : 12 ≤ dr) {N : Nat} {sE : Nat → Int32 → eH → Option (Unit × eH)} {sL : Nat → Int32 → Int64 → Int64 → eH → Option (Int32 × eH)} {sN : Nat → eH → Option (Int32 × eH)} (hsE : ∀ a t0 h q, sE a t0 h = some q → wm w dr YX35_expand [.ref a, .int t0] h (e_is (e_rn c_V q))) (hsL : ∀ a t0 t1 t2 h q, sL a t0 t1 t2 h = some q → wm w dr YX35_layBox [.ref a, .int t0, .long t1, .long t2] h (e_is (e_rn c_I q))) (hsN : ∀ a h q, sN a h = some q → wm w dr YX35_number [.ref a] h (e_is (e_rn c_I q))) {l0 : Nat} {l2 : Int32} {h : eH} {q} (hf : fX35_done_b124 N sE sL sN l0 l2 h = some q) : wp w (d + 1) YX35_done 124 [some (.ref l0), none, some (.int l2), none] [] h (e_is (e_rn c_V q)) := by
  unfold fX35_done_b124 at hf
  refine w_aload_n dX35_done_124 rfl rfl ?_
  obtain ⟨x1, b2, hf⟩ := Option.bind_eq_some_iff.mp hf
  refine GX35_321 b2 dX35_done_125 rfl ?_
  refine w_if_ne 154 dX35_done_128 (by decide) (fun c3 => ?_) (fun c3 => ?_)
  · replace hf := (if_pos (show ¬ x1 = 0 from c3)).symm.trans hf
    exact (pX35_done_b154 hd hdr hsE hsL hsN hf).to ⟨rfl, rfl, trivial⟩
  · replace hf := (if_neg (show ¬ (¬ x1 = 0) from (fun z => z c3))).symm.trans hf
    refine w_iload_n dX35_done_131 rfl rfl ?_
    refine w_ldc_w dX35_done_132 q5266 ?_
    refine w_icmp_lt 154 dX35_done_135 (by decide) (fun c4 => ?_) (fun c4 => ?_)
    · replace hf := (if_pos (show l2 < (4000000 : Int32) from c4)).symm.trans hf
      exact (pX35_done_b154 hd hdr hsE hsL hsN hf).to ⟨rfl, rfl, trivial⟩
    · replace hf := (if_neg (show ¬ (l2 < (4000000 : Int32)) from c4)).symm.trans hf
      refine w_aload_n dX35_done_138 rfl rfl ?_
      refine w_sipush dX35_done_139 (v := 3811) (by decide) ?_
      refine w_iload_n dX35_done_142 rfl rfl ?_
      refine w_ldc_w dX35_done_143 q5266 ?_
      refine w_isub dX35_done_146 ?_
      refine w_iconst dX35_done_147 (v := 0) (by decide) ?_
      obtain ⟨_, b5, hf⟩ := Option.bind_eq_some_iff.mp hf
      refine x_cnV hf (e_stV (Yc := YX35_setAt) (ci := 34) (av := [.int (3811 : Int32), .int (l2 - (4000000 : Int32)), .int (0 : Int32)]) (st := []) dX35_done_148 q5205 mX35_setAt rfl (k_ok_some b5).1 (k_ok_some b5).2) mX35_setAt.2.2.1 mX35_setAt.2.2.2.2.1 (Nat.le_of_ble_eq_true rfl) (Nat.le_of_ble_eq_true rfl) (fun q hq => pX35_setAt (by omega) hq) (fun q6 hf => ?_)
      refine w_goto 170 dX35_done_151 (by decide) ?_
      exact (pX35_done_b170 hd hdr hsE hsL hsN hf).to trivial
def fX35_done_b58 (N : Nat) (sE : Nat → Int32 → eH → Option (Unit × eH)) (sL : Nat → Int32 → Int64 → Int64 → eH → Option (Int32 × eH)) (sN : Nat → eH → Option (Int32 × eH)) (l0 : Nat) (l2 : Int32) (h : eH) : Option (Unit × eH) :=
  if ¬ l2 = (1051 : Int32) then
    (k_ok 34 h l0).bind fun _ =>
    (fX35_endWord N l0 h).bind fun q3 =>
    (g_I 34 q3.2 l0 46).bind fun x4 =>
    if ¬ x4 = 0 then
      fX35_done_b124 N sE sL sN l0 l2 q3.2
    else
      if ¬ l2 = 0 then
        fX35_done_b124 N sE sL sN l0 l2 q3.2
      else
        (k_ok 34 q3.2 l0).bind fun _ =>
        (fX35_fail l0 (11 : Int32) q3.2).bind fun q9 =>
        fX35_done_b170 N sE sL sN q9.2
  else
    (k_ok 34 h l0).bind fun _ =>
    (fX35_isVertical l0 h).bind fun q11 =>
    if q11.1 = 0 then
      fX35_done_b77 N sE sL sN l0 q11.2
    else
      (k_ok 34 q11.2 l0).bind fun _ =>
      (fX35_beginParagraph N sL l0 (1 : Int32) q11.2).bind fun q14 =>
      fX35_done_b77 N sE sL sN l0 q14.2
theorem pX35_done_b58 {w : eW} {d : Nat} {dr : Nat} (hd : dr + 19 ≤ d + 1) (hdr : 12 ≤ dr) {N : Nat} {sE : Nat → Int32 → eH → Option (Unit × eH)} {sL : Nat → Int32 → Int64 → Int64 → eH → Option (Int32 × eH)} {sN : Nat → eH → Option (Int32 × eH)} (hsE : ∀ a t0 h q, sE a t0 h = some q → wm w dr YX35_expand [.ref a, .int t0] h (e_is (e_rn c_V q))) (hsL : ∀ a t0 t1 t2 h q, sL a t0 t1 t2 h = some q → wm w dr YX35_layBox [.ref a, .int t0, .long t1, .long t2] h (e_is (e_rn c_I q))) (hsN : ∀ a h q, sN a h = some q → wm w dr YX35_number [.ref a] h (e_is (e_rn c_I q))) {l0 : Nat} {l2 : Int32} {h : eH} {q} (hf : fX35_done_b58 N sE sL sN l0 l2 h = some q) : wp w (d + 1) YX35_done 58 [some (.ref l0), none, some (.int l2), none] [] h (e_is (e_rn c_V q)) := by
  unfold fX35_done_b58 at hf
  refine w_iload_n dX35_done_58 rfl rfl ?_
  refine w_sipush dX35_done_59 (v := 1051) (by decide) ?_
  refine w_icmp_ne 100 dX35_done_62 (by decide) (fun c1 => ?_) (fun c1 => ?_)
  · replace hf := (if_pos (show ¬ l2 = (1051 : Int32) from c1)).symm.trans hf
    refine w_aload_n dX35_done_100 rfl rfl ?_
    obtain ⟨_, b2, hf⟩ := Option.bind_eq_some_iff.mp hf
    refine x_cnV hf (e_stV (Yc := YX35_endWord) (ci := 34) (av := []) (st := []) dX35_done_101 q5675 mX35_endWord rfl (k_ok_some b2).1 (k_ok_some b2).2) mX35_endWord.2.2.1 mX35_endWord.2.2.2.2.1 (Nat.le_of_ble_eq_true rfl) (Nat.le_of_ble_eq_true rfl) (fun q hq => pX35_endWord (by omega) hq) (fun q3 hf => ?_)
    refine w_aload_n dX35_done_104 rfl rfl ?_
    obtain ⟨x4, b5, hf⟩ := Option.bind_eq_some_iff.mp hf
    refine GX35_321 b5 dX35_done_105 rfl ?_
    refine w_if_ne 124 dX35_done_108 (by decide) (fun c6 => ?_) (fun c6 => ?_)
    · replace hf := (if_pos (show ¬ x4 = 0 from c6)).symm.trans hf
      exact (pX35_done_b124 hd hdr hsE hsL hsN hf).to ⟨rfl, rfl, trivial⟩
    · replace hf := (if_neg (show ¬ (¬ x4 = 0) from (fun z => z c6))).symm.trans hf
      refine w_iload_n dX35_done_111 rfl rfl ?_
      refine w_if_ne 124 dX35_done_112 (by decide) (fun c7 => ?_) (fun c7 => ?_)
      · replace hf := (if_pos (show ¬ l2 = 0 from c7)).symm.trans hf
        exact (pX35_done_b124 hd hdr hsE hsL hsN hf).to ⟨rfl, rfl, trivial⟩
      · replace hf := (if_neg (show ¬ (¬ l2 = 0) from (fun z => z c7))).symm.trans hf
        refine w_aload_n dX35_done_115 rfl rfl ?_
        refine w_bipush dX35_done_116 (v := 11) (by decide) ?_
        obtain ⟨_, b8, hf⟩ := Option.bind_eq_some_iff.mp hf
        refine x_cnV hf (e_stV (Yc := YX35_fail) (ci := 34) (av := [.int (11 : Int32)]) (st := []) dX35_done_118 q5109 mX35_fail rfl (k_ok_some b8).1 (k_ok_some b8).2) mX35_fail.2.2.1 mX35_fail.2.2.2.2.1 (Nat.le_of_ble_eq_true rfl) (Nat.le_of_ble_eq_true rfl) (fun q hq => pX35_fail (by omega) hq) (fun q9 hf => ?_)
        refine w_goto 170 dX35_done_121 (by decide) ?_
        exact (pX35_done_b170 hd hdr hsE hsL hsN hf).to trivial
  · replace hf := (if_neg (show ¬ (¬ l2 = (1051 : Int32)) from (fun z => z c1))).symm.trans hf
    refine w_aload_n dX35_done_65 rfl rfl ?_
    obtain ⟨_, b10, hf⟩ := Option.bind_eq_some_iff.mp hf
    refine x_cnI hf (e_stV (Yc := YX35_isVertical) (ci := 34) (av := []) (st := []) dX35_done_66 q5449 mX35_isVertical rfl (k_ok_some b10).1 (k_ok_some b10).2) mX35_isVertical.2.2.1 mX35_isVertical.2.2.2.2.1 (Nat.le_of_ble_eq_true rfl) (Nat.le_of_ble_eq_true rfl) (fun q hq => pX35_isVertical (by omega) hq) (fun q11 hf => ?_)
    refine w_if_eq 77 dX35_done_69 (by decide) (fun c12 => ?_) (fun c12 => ?_)
    · replace hf := (if_pos (show q11.1 = 0 from c12)).symm.trans hf
      exact (pX35_done_b77 hd hdr hsE hsL hsN hf).to ⟨rfl, trivial⟩
    · replace hf := (if_neg (show ¬ (q11.1 = 0) from c12)).symm.trans hf
      refine w_aload_n dX35_done_72 rfl rfl ?_
      refine w_iconst dX35_done_73 (v := 1) (by decide) ?_
      obtain ⟨_, b13, hf⟩ := Option.bind_eq_some_iff.mp hf
      refine x_cnV hf (e_stV (Yc := YX35_beginParagraph) (ci := 34) (av := [.int (1 : Int32)]) (st := []) dX35_done_74 q5453 mX35_beginParagraph rfl (k_ok_some b13).1 (k_ok_some b13).2) mX35_beginParagraph.2.2.1 mX35_beginParagraph.2.2.2.2.1 (Nat.le_of_ble_eq_true rfl) (Nat.le_of_ble_eq_true rfl) (fun q hq => pX35_beginParagraph (by omega) hdr hsL hq) (fun q14 hf => ?_)
      exact (pX35_done_b77 hd hdr hsE hsL hsN hf).to ⟨rfl, trivial⟩
def fX35_done_b32 (N : Nat) (sE : Nat → Int32 → eH → Option (Unit × eH)) (sL : Nat → Int32 → Int64 → Int64 → eH → Option (Int32 × eH)) (sN : Nat → eH → Option (Int32 × eH)) (l0 : Nat) (l2 : Int32) (h : eH) : Option (Unit × eH) :=
  if l2 < (3000000 : Int32) then
    fX35_done_b58 N sE sL sN l0 l2 h
  else
    if (4000000 : Int32) ≤ l2 then
      fX35_done_b58 N sE sL sN l0 l2 h
    else
      (k_ok 34 h l0).bind fun _ =>
      (fX35_character N sL l0 (l2 - (3000000 : Int32)) h).bind fun q4 =>
      fX35_done_b170 N sE sL sN q4.2
theorem pX35_done_b32 {w : eW} {d : Nat} {dr : Nat} (hd : dr + 19 ≤ d + 1) (hdr : 12 ≤ dr) {N : Nat} {sE : Nat → Int32 → eH → Option (Unit × eH)} {sL : Nat → Int32 → Int64 → Int64 → eH → Option (Int32 × eH)} {sN : Nat → eH → Option (Int32 × eH)} (hsE : ∀ a t0 h q, sE a t0 h = some q → wm w dr YX35_expand [.ref a, .int t0] h (e_is (e_rn c_V q))) (hsL : ∀ a t0 t1 t2 h q, sL a t0 t1 t2 h = some q → wm w dr YX35_layBox [.ref a, .int t0, .long t1, .long t2] h (e_is (e_rn c_I q))) (hsN : ∀ a h q, sN a h = some q → wm w dr YX35_number [.ref a] h (e_is (e_rn c_I q))) {l0 : Nat} {l2 : Int32} {h : eH} {q} (hf : fX35_done_b32 N sE sL sN l0 l2 h = some q) : wp w (d + 1) YX35_done 32 [some (.ref l0), none, some (.int l2), none] [] h (e_is (e_rn c_V q)) := by
  unfold fX35_done_b32 at hf
  refine w_iload_n dX35_done_32 rfl rfl ?_
  refine w_ldc_w dX35_done_33 q5265 ?_
  refine w_icmp_lt 58 dX35_done_36 (by decide) (fun c1 => ?_) (fun c1 => ?_)
  · replace hf := (if_pos (show l2 < (3000000 : Int32) from c1)).symm.trans hf
    exact (pX35_done_b58 hd hdr hsE hsL hsN hf).to ⟨rfl, rfl, trivial⟩
  · replace hf := (if_neg (show ¬ (l2 < (3000000 : Int32)) from c1)).symm.trans hf
    refine w_iload_n dX35_done_39 rfl rfl ?_
    refine w_ldc_w dX35_done_40 q5266 ?_
    refine w_icmp_ge 58 dX35_done_43 (by decide) (fun c2 => ?_) (fun c2 => ?_)
    · replace hf := (if_pos (show (4000000 : Int32) ≤ l2 from c2)).symm.trans hf
      exact (pX35_done_b58 hd hdr hsE hsL hsN hf).to ⟨rfl, rfl, trivial⟩
    · replace hf := (if_neg (show ¬ ((4000000 : Int32) ≤ l2) from c2)).symm.trans hf
      refine w_aload_n dX35_done_46 rfl rfl ?_
      refine w_iload_n dX35_done_47 rfl rfl ?_
      refine w_ldc_w dX35_done_48 q5265 ?_
      refine w_isub dX35_done_51 ?_
      obtain ⟨_, b3, hf⟩ := Option.bind_eq_some_iff.mp hf
      refine x_cnV hf (e_stV (Yc := YX35_character) (ci := 34) (av := [.int (l2 - (3000000 : Int32))]) (st := []) dX35_done_52 q5445 mX35_character rfl (k_ok_some b3).1 (k_ok_some b3).2) mX35_character.2.2.1 mX35_character.2.2.2.2.1 (Nat.le_of_ble_eq_true rfl) (Nat.le_of_ble_eq_true rfl) (fun q hq => pX35_character (by omega) hdr hsL hq) (fun q4 hf => ?_)
      refine w_goto 170 dX35_done_55 (by decide) ?_
      exact (pX35_done_b170 hd hdr hsE hsL hsN hf).to trivial
def fX35_done (N : Nat) (sE : Nat → Int32 → eH → Option (Unit × eH)) (sL : Nat → Int32 → Int64 → Int64 → eH → Option (Int32 × eH)) (sN : Nat → eH → Option (Int32 × eH)) (this : Nat) (p0 : Int32) (h : eH) : Option (Unit × eH) :=
  (k_ok 34 h this).bind fun _ =>
  (fX35_meaning this p0 h).bind fun q2 =>
  if q2.1 < (2000000 : Int32) then
    fX35_done_b32 N sE sL sN this q2.1 q2.2
  else
    if (3000000 : Int32) ≤ q2.1 then
      fX35_done_b32 N sE sL sN this q2.1 q2.2
    else
      (k_ok 34 q2.2 this).bind fun _ =>
      (fX35_doCharacter N sL this (q2.1 - (2000000 : Int32)) q2.2).bind fun q6 =>
      fX35_done_b170 N sE sL sN q6.2
theorem pX35_done {w : eW} {d : Nat} {dr : Nat} (hd : dr + 19 ≤ d) (hdr : 12 ≤ dr) {N : Nat} {sE : Nat → Int32 → eH → Option (Unit × eH)} {sL : Nat → Int32 → Int64 → Int64 → eH → Option (Int32 × eH)} {sN : Nat → eH → Option (Int32 × eH)} (hsE : ∀ a t0 h q, sE a t0 h = some q → wm w dr YX35_expand [.ref a, .int t0] h (e_is (e_rn c_V q))) (hsL : ∀ a t0 t1 t2 h q, sL a t0 t1 t2 h = some q → wm w dr YX35_layBox [.ref a, .int t0, .long t1, .long t2] h (e_is (e_rn c_I q))) (hsN : ∀ a h q, sN a h = some q → wm w dr YX35_number [.ref a] h (e_is (e_rn c_I q))) {this : Nat} {p0 : Int32} {h : eH} {q} (hf : fX35_done N sE sL sN this p0 h = some q) : wm w d YX35_done [.ref this, .int p0] h (e_is (e_rn c_V q)) := by
  obtain ⟨d, rfl⟩ : ∃ e, d = e + 1 := ⟨d - 1, by omega⟩
  show wp w (d + 1) YX35_done 0 [some (.ref this), some (.int p0), none, none] [] h _
  unfold fX35_done at hf
  refine w_aload_n dX35_done_0 rfl rfl ?_
  refine w_iload_n dX35_done_1 rfl rfl ?_
  obtain ⟨_, b1, hf⟩ := Option.bind_eq_some_iff.mp hf
  refine x_cnI hf (e_stV (Yc := YX35_meaning) (ci := 34) (av := [.int p0]) (st := []) dX35_done_2 q5130 mX35_meaning rfl (k_ok_some b1).1 (k_ok_some b1).2) mX35_meaning.2.2.1 mX35_meaning.2.2.2.2.1 (Nat.le_of_ble_eq_true rfl) (Nat.le_of_ble_eq_true rfl) (fun q hq => pX35_meaning (by omega) hq) (fun q2 hf => ?_)
  refine w_istore_n dX35_done_5 rfl (by decide) (ls' := [some (.ref this), some (.int p0), some (.int q2.1), none]) rfl ?_
  refine w_iload_n dX35_done_6 rfl rfl ?_
  refine w_ldc_w dX35_done_7 q5134 ?_
  refine w_icmp_lt 32 dX35_done_10 (by decide) (fun c3 => ?_) (fun c3 => ?_)
  · replace hf := (if_pos (show q2.1 < (2000000 : Int32) from c3)).symm.trans hf
    exact (pX35_done_b32 hd hdr hsE hsL hsN hf).to ⟨rfl, rfl, trivial⟩
  · replace hf := (if_neg (show ¬ (q2.1 < (2000000 : Int32)) from c3)).symm.trans hf
    refine w_iload_n dX35_done_13 rfl rfl ?_
    refine w_ldc_w dX35_done_14 q5265 ?_
    refine w_icmp_ge 32 dX35_done_17 (by decide) (fun c4 => ?_) (fun c4 => ?_)
    · replace hf := (if_pos (show (3000000 : Int32) ≤ q2.1 from c4)).symm.trans hf
      exact (pX35_done_b32 hd hdr hsE hsL hsN hf).to ⟨rfl, rfl, trivial⟩
    · replace hf := (if_neg (show ¬ ((3000000 : Int32) ≤ q2.1) from c4)).symm.trans hf
      refine w_aload_n dX35_done_20 rfl rfl ?_
      refine w_iload_n dX35_done_21 rfl rfl ?_
      refine w_ldc_w dX35_done_22 q5134 ?_
      refine w_isub dX35_done_25 ?_
      obtain ⟨_, b5, hf⟩ := Option.bind_eq_some_iff.mp hf
      refine x_cnV hf (e_stV (Yc := YX35_doCharacter) (ci := 34) (av := [.int (q2.1 - (2000000 : Int32))]) (st := []) dX35_done_26 q5441 mX35_doCharacter rfl (k_ok_some b5).1 (k_ok_some b5).2) mX35_doCharacter.2.2.1 mX35_doCharacter.2.2.2.2.1 (Nat.le_of_ble_eq_true rfl) (Nat.le_of_ble_eq_true rfl) (fun q hq => pX35_doCharacter (by omega) hdr hsL hq) (fun q6 hf => ?_)
      refine w_goto 170 dX35_done_29 (by decide) ?_
      exact (pX35_done_b170 hd hdr hsE hsL hsN hf).to trivial
abbrev cX40_areNumbersSmall : ByteArray := prog_41_method_22_code
def yX40_areNumbersSmall : MethodName := ⟨RX40, "areNumbersSmall", "([BI)Z"⟩
def YX40_areNumbersSmall : eY := (yX40_areNumbersSmall, cX40_areNumbersSmall, 4, (Option.some FieldType.boolean), [])
theorem mX40_areNumbersSmall : e_ms YX40_areNumbersSmall 2 := ⟨q4914, q483, q4915, by decide, by decide +kernel, (e_sig (by decide +kernel))⟩
theorem dX40_areNumbersSmall_0 : decode cX40_areNumbersSmall 0 = .ok (.iload_n 1, 1) := dc_27 (by decide +kernel)
theorem dX40_areNumbersSmall_1 : decode cX40_areNumbersSmall 1 = .ok (.bipush 24, 2) := dc_16 (a := 24) (v := 24) (by decide +kernel)
theorem dX40_areNumbersSmall_3 : decode cX40_areNumbersSmall 3 = .ok (.if_icmp .lt 7, 3) := dc_161 (a := 0) (b := 7) (v := 7) (by decide +kernel)
theorem dX40_areNumbersSmall_6 : decode cX40_areNumbersSmall 6 = .ok (.iconst 1, 1) := dc_4 (by decide +kernel)
theorem dX40_areNumbersSmall_7 : decode cX40_areNumbersSmall 7 = .ok (.goto 4, 3) := dc_167 (a := 0) (b := 4) (v := 4) (by decide +kernel)
theorem dX40_areNumbersSmall_10 : decode cX40_areNumbersSmall 10 = .ok (.iconst 0, 1) := dc_3 (by decide +kernel)
theorem dX40_areNumbersSmall_11 : decode cX40_areNumbersSmall 11 = .ok (.istore_n 2, 1) := dc_61 (by decide +kernel)
theorem dX40_areNumbersSmall_12 : decode cX40_areNumbersSmall 12 = .ok (.iconst 0, 1) := dc_3 (by decide +kernel)
theorem dX40_areNumbersSmall_13 : decode cX40_areNumbersSmall 13 = .ok (.istore_n 3, 1) := dc_62 (by decide +kernel)
theorem dX40_areNumbersSmall_14 : decode cX40_areNumbersSmall 14 = .ok (.iload_n 3, 1) := dc_29 (by decide +kernel)
theorem dX40_areNumbersSmall_15 : decode cX40_areNumbersSmall 15 = .ok (.bipush 12, 2) := dc_16 (a := 12) (v := 12) (by decide +kernel)
theorem dX40_areNumbersSmall_17 : decode cX40_areNumbersSmall 17 = .ok (.if_icmp .ge 30, 3) := dc_162 (a := 0) (b := 30) (v := 30) (by decide +kernel)
theorem dX40_areNumbersSmall_20 : decode cX40_areNumbersSmall 20 = .ok (.iload_n 2, 1) := dc_28 (by decide +kernel)
theorem dX40_areNumbersSmall_21 : decode cX40_areNumbersSmall 21 = .ok (.ifCond .eq 26, 3) := dc_153 (a := 0) (b := 26) (v := 26) (by decide +kernel)
theorem dX40_areNumbersSmall_24 : decode cX40_areNumbersSmall 24 = .ok (.aload_n 0, 1) := dc_42 (by decide +kernel)
theorem dX40_areNumbersSmall_25 : decode cX40_areNumbersSmall 25 = .ok (.iload_n 3, 1) := dc_29 (by decide +kernel)
theorem dX40_areNumbersSmall_26 : decode cX40_areNumbersSmall 26 = .ok (.invokestatic 22, 3) := dc_184 (a := 0) (b := 22) (n := 22) (by decide +kernel)
theorem dX40_areNumbersSmall_29 : decode cX40_areNumbersSmall 29 = .ok (.sipush 32767, 3) := dc_17 (a := 127) (b := 255) (v := 32767) (by decide +kernel)
theorem dX40_areNumbersSmall_32 : decode cX40_areNumbersSmall 32 = .ok (.if_icmp .gt 7, 3) := dc_163 (a := 0) (b := 7) (v := 7) (by decide +kernel)
theorem dX40_areNumbersSmall_35 : decode cX40_areNumbersSmall 35 = .ok (.iconst 1, 1) := dc_4 (by decide +kernel)
theorem dX40_areNumbersSmall_36 : decode cX40_areNumbersSmall 36 = .ok (.goto 4, 3) := dc_167 (a := 0) (b := 4) (v := 4) (by decide +kernel)
theorem dX40_areNumbersSmall_39 : decode cX40_areNumbersSmall 39 = .ok (.iconst 0, 1) := dc_3 (by decide +kernel)
theorem dX40_areNumbersSmall_40 : decode cX40_areNumbersSmall 40 = .ok (.istore_n 2, 1) := dc_61 (by decide +kernel)
theorem dX40_areNumbersSmall_41 : decode cX40_areNumbersSmall 41 = .ok (.iinc 3 1, 3) := dc_132 (a := 3) (b := 1) (v := 1) (by decide +kernel)
theorem dX40_areNumbersSmall_44 : decode cX40_areNumbersSmall 44 = .ok (.goto (-30), 3) := dc_167 (a := 255) (b := 226) (v := -30) (by decide +kernel)
theorem dX40_areNumbersSmall_47 : decode cX40_areNumbersSmall 47 = .ok (.iload_n 2, 1) := dc_28 (by decide +kernel)
theorem dX40_areNumbersSmall_48 : decode cX40_areNumbersSmall 48 = .ok (.ireturn, 1) := dc_172 (by decide +kernel)
def fX40_areNumbersSmall_b40 (N : Nat) (k14 : Nat → Int32 → Int32 → eH → Option (Int32 × eH)) (l0 : Nat) (l3 : Int32) (s0 : Int32) (h : eH) : Option (Int32 × eH) :=
  k14 l0 s0 (l3 + (1 : Int32)) h
theorem pX40_areNumbersSmall_b40 {w : eW} {d : Nat} (hd : 1 ≤ d + 1) {N : Nat} {k14 : Nat → Int32 → Int32 → eH → Option (Int32 × eH)} (hk14 : ∀ l0 l2 l3 h q, k14 l0 l2 l3 h = some q → wp w (d + 1) YX40_areNumbersSmall 14 [some (.ref l0), none, some (.int l2), some (.int l3)] [] h (e_is (e_rn c_I q))) {l0 : Nat} {l3 : Int32} {s0 : Int32} {h : eH} {q} (hf : fX40_areNumbersSmall_b40 N k14 l0 l3 s0 h = some q) : wp w (d + 1) YX40_areNumbersSmall 40 [some (.ref l0), none, none, some (.int l3)] [.int s0] h (e_is (e_rn c_I q)) := by
  unfold fX40_areNumbersSmall_b40 at hf
  refine w_istore_n dX40_areNumbersSmall_40 rfl (by decide) (ls' := [some (.ref l0), none, some (.int s0), some (.int l3)]) rfl ?_
  refine w_iinc dX40_areNumbersSmall_41 (v := (l3 + (1 : Int32))) rfl rfl (by decide) (ls' := [some (.ref l0), none, some (.int s0), some (.int (l3 + (1 : Int32)))]) rfl ?_
  refine w_goto 14 dX40_areNumbersSmall_44 (by decide) ?_
  exact (hk14 _ _ _ _ _ hf).to ⟨rfl, rfl, rfl, trivial⟩
def fX40_areNumbersSmall_b47 (N : Nat) (l2 : Int32) (h : eH) : Option (Int32 × eH) :=
  z_r l2 (l2, h)
theorem pX40_areNumbersSmall_b47 {w : eW} {d : Nat} (hd : 1 ≤ d + 1) {N : Nat} {l2 : Int32} {h : eH} {q} (hf : fX40_areNumbersSmall_b47 N l2 h = some q) : wp w (d + 1) YX40_areNumbersSmall 47 [none, none, some (.int l2), none] [] h (e_is (e_rn c_I q)) := by
  unfold fX40_areNumbersSmall_b47 at hf
  refine w_iload_n dX40_areNumbersSmall_47 rfl rfl ?_
  obtain ⟨b1, rfl⟩ := z_r_some hf
  exact w_iret dX40_areNumbersSmall_48 rfl b1 rfl
def fX40_areNumbersSmall_b14 (N : Nat) : Nat → Nat → Int32 → Int32 → eH → Option (Int32 × eH)
  | 0, _, _, _, _ => none
  | n + 1, l0, l2, l3, h =>
    if (12 : Int32) ≤ l3 then
      fX40_areNumbersSmall_b47 N l2 h
    else
      if l2 = 0 then
        fX40_areNumbersSmall_b47 N l2 h
      else
        (fX40_half l0 l3 h).bind fun q3 =>
        if (32767 : Int32) < q3.1 then
          fX40_areNumbersSmall_b40 N (fX40_areNumbersSmall_b14 N n) l0 l3 (0 : Int32) q3.2
        else
          fX40_areNumbersSmall_b40 N (fX40_areNumbersSmall_b14 N n) l0 l3 (1 : Int32) q3.2
theorem pX40_areNumbersSmall_b14 {w : eW} {d : Nat} (hd : 1 ≤ d + 1) {N : Nat} : ∀ (n : Nat) l0 l2 l3 h q, fX40_areNumbersSmall_b14 N n l0 l2 l3 h = some q → wp w (d + 1) YX40_areNumbersSmall 14 [some (.ref l0), none, some (.int l2), some (.int l3)] [] h (e_is (e_rn c_I q)) := by
  intro n
  induction n with
  | zero => intro l0 l2 l3 h q hf; simp [fX40_areNumbersSmall_b14] at hf
  | succ n ih =>
    intro l0 l2 l3 h q hf
    rw [fX40_areNumbersSmall_b14] at hf
    refine w_iload_n dX40_areNumbersSmall_14 rfl rfl ?_
    refine w_bipush dX40_areNumbersSmall_15 (v := 12) (by decide) ?_
    refine w_icmp_ge 47 dX40_areNumbersSmall_17 (by decide) (fun c1 => ?_) (fun c1 => ?_)
    · replace hf := (if_pos (show (12 : Int32) ≤ l3 from c1)).symm.trans hf
      exact (pX40_areNumbersSmall_b47 hd hf).to ⟨rfl, trivial⟩
    · replace hf := (if_neg (show ¬ ((12 : Int32) ≤ l3) from c1)).symm.trans hf
      refine w_iload_n dX40_areNumbersSmall_20 rfl rfl ?_
      refine w_if_eq 47 dX40_areNumbersSmall_21 (by decide) (fun c2 => ?_) (fun c2 => ?_)
      · replace hf := (if_pos (show l2 = 0 from c2)).symm.trans hf
        exact (pX40_areNumbersSmall_b47 hd hf).to ⟨rfl, trivial⟩
      · replace hf := (if_neg (show ¬ (l2 = 0) from c2)).symm.trans hf
        refine w_aload_n dX40_areNumbersSmall_24 rfl rfl ?_
        refine w_iload_n dX40_areNumbersSmall_25 rfl rfl ?_
        refine x_cnI hf (e_stS (Yc := YX40_half) (av := [.ref l0, .int l3]) (st := []) dX40_areNumbersSmall_26 q4916 mX40_half) mX40_half.2.2.1 mX40_half.2.2.2.2.1 (Nat.le_of_ble_eq_true rfl) (Nat.le_of_ble_eq_true rfl) (fun q hq => pX40_half (by omega) hq) (fun q3 hf => ?_)
        refine w_sipush dX40_areNumbersSmall_29 (v := 32767) (by decide) ?_
        refine w_icmp_gt 39 dX40_areNumbersSmall_32 (by decide) (fun c4 => ?_) (fun c4 => ?_)
        · replace hf := (if_pos (show (32767 : Int32) < q3.1 from c4)).symm.trans hf
          refine w_iconst dX40_areNumbersSmall_39 (v := 0) (by decide) ?_
          exact (pX40_areNumbersSmall_b40 hd ih hf).to ⟨rfl, rfl, trivial⟩
        · replace hf := (if_neg (show ¬ ((32767 : Int32) < q3.1) from c4)).symm.trans hf
          refine w_iconst dX40_areNumbersSmall_35 (v := 1) (by decide) ?_
          refine w_goto 40 dX40_areNumbersSmall_36 (by decide) ?_
          exact (pX40_areNumbersSmall_b40 hd ih hf).to ⟨rfl, rfl, trivial⟩
def fX40_areNumbersSmall_b11 (N : Nat) (l0 : Nat) (s0 : Int32) (h : eH) : Option (Int32 × eH) :=
  fX40_areNumbersSmall_b14 N N l0 s0 (0 : Int32) h
theorem pX40_areNumbersSmall_b11 {w : eW} {d : Nat} (hd : 1 ≤ d + 1) {N : Nat} {l0 : Nat} {s0 : Int32} {h : eH} {q} (hf : fX40_areNumbersSmall_b11 N l0 s0 h = some q) : wp w (d + 1) YX40_areNumbersSmall 11 [some (.ref l0), none, none, none] [.int s0] h (e_is (e_rn c_I q)) := by
  unfold fX40_areNumbersSmall_b11 at hf
  refine w_istore_n dX40_areNumbersSmall_11 rfl (by decide) (ls' := [some (.ref l0), none, some (.int s0), none]) rfl ?_
  refine w_iconst dX40_areNumbersSmall_12 (v := 0) (by decide) ?_
  refine w_istore_n dX40_areNumbersSmall_13 rfl (by decide) (ls' := [some (.ref l0), none, some (.int s0), some (.int (0 : Int32))]) rfl ?_
  exact (pX40_areNumbersSmall_b14 hd N _ _ _ _ _ hf).to ⟨rfl, rfl, rfl, trivial⟩
def fX40_areNumbersSmall (N : Nat) (p0 : Nat) (p1 : Int32) (h : eH) : Option (Int32 × eH) :=
  if p1 < (24 : Int32) then
    fX40_areNumbersSmall_b11 N p0 (0 : Int32) h
  else
    fX40_areNumbersSmall_b11 N p0 (1 : Int32) h
theorem pX40_areNumbersSmall {w : eW} {d : Nat} (hd : 1 ≤ d) {N : Nat} {p0 : Nat} {p1 : Int32} {h : eH} {q} (hf : fX40_areNumbersSmall N p0 p1 h = some q) : wm w d YX40_areNumbersSmall [.ref p0, .int p1] h (e_is (e_rn c_I q)) := by
  obtain ⟨d, rfl⟩ : ∃ e, d = e + 1 := ⟨d - 1, by omega⟩
  show wp w (d + 1) YX40_areNumbersSmall 0 [some (.ref p0), some (.int p1), none, none] [] h _
  unfold fX40_areNumbersSmall at hf
  refine w_iload_n dX40_areNumbersSmall_0 rfl rfl ?_
  refine w_bipush dX40_areNumbersSmall_1 (v := 24) (by decide) ?_
  refine w_icmp_lt 10 dX40_areNumbersSmall_3 (by decide) (fun c1 => ?_) (fun c1 => ?_)
  · replace hf := (if_pos (show p1 < (24 : Int32) from c1)).symm.trans hf
    refine w_iconst dX40_areNumbersSmall_10 (v := 0) (by decide) ?_
    exact (pX40_areNumbersSmall_b11 hd hf).to ⟨rfl, trivial⟩
  · replace hf := (if_neg (show ¬ (p1 < (24 : Int32)) from c1)).symm.trans hf
    refine w_iconst dX40_areNumbersSmall_6 (v := 1) (by decide) ?_
    refine w_goto 11 dX40_areNumbersSmall_7 (by decide) ?_
    exact (pX40_areNumbersSmall_b11 hd hf).to ⟨rfl, trivial⟩
abbrev cX40_areSizesRight : ByteArray := prog_41_method_13_code
def yX40_areSizesRight : MethodName := ⟨RX40, "areSizesRight", "([B)Z"⟩
def YX40_areSizesRight : eY := (yX40_areSizesRight, cX40_areSizesRight, 3, (Option.some FieldType.boolean), [])
theorem mX40_areSizesRight : e_ms YX40_areSizesRight 1 := ⟨q4933, q483, q4934, by decide, by decide +kernel, (e_sig (by decide +kernel))⟩
theorem dX40_areSizesRight_0 : decode cX40_areSizesRight 0 = .ok (.iconst 1, 1) := dc_4 (by decide +kernel)
theorem dX40_areSizesRight_1 : decode cX40_areSizesRight 1 = .ok (.istore_n 1, 1) := dc_60 (by decide +kernel)
theorem dX40_areSizesRight_2 : decode cX40_areSizesRight 2 = .ok (.iconst 0, 1) := dc_3 (by decide +kernel)
theorem dX40_areSizesRight_3 : decode cX40_areSizesRight 3 = .ok (.istore_n 2, 1) := dc_61 (by decide +kernel)
theorem dX40_areSizesRight_4 : decode cX40_areSizesRight 4 = .ok (.iload_n 2, 1) := dc_28 (by decide +kernel)
theorem dX40_areSizesRight_5 : decode cX40_areSizesRight 5 = .ok (.aload_n 0, 1) := dc_42 (by decide +kernel)
theorem dX40_areSizesRight_6 : decode cX40_areSizesRight 6 = .ok (.iconst 1, 1) := dc_4 (by decide +kernel)
theorem dX40_areSizesRight_7 : decode cX40_areSizesRight 7 = .ok (.invokestatic 26, 3) := dc_184 (a := 0) (b := 26) (n := 26) (by decide +kernel)
theorem dX40_areSizesRight_10 : decode cX40_areSizesRight 10 = .ok (.if_icmp .ge 87, 3) := dc_162 (a := 0) (b := 87) (v := 87) (by decide +kernel)
theorem dX40_areSizesRight_13 : decode cX40_areSizesRight 13 = .ok (.iload_n 1, 1) := dc_27 (by decide +kernel)
theorem dX40_areSizesRight_14 : decode cX40_areSizesRight 14 = .ok (.ifCond .eq 75, 3) := dc_153 (a := 0) (b := 75) (v := 75) (by decide +kernel)
theorem dX40_areSizesRight_17 : decode cX40_areSizesRight 17 = .ok (.aload_n 0, 1) := dc_42 (by decide +kernel)
theorem dX40_areSizesRight_18 : decode cX40_areSizesRight 18 = .ok (.iconst 1, 1) := dc_4 (by decide +kernel)
theorem dX40_areSizesRight_19 : decode cX40_areSizesRight 19 = .ok (.iload_n 2, 1) := dc_28 (by decide +kernel)
theorem dX40_areSizesRight_20 : decode cX40_areSizesRight 20 = .ok (.iconst 0, 1) := dc_3 (by decide +kernel)
theorem dX40_areSizesRight_21 : decode cX40_areSizesRight 21 = .ok (.invokestatic 32, 3) := dc_184 (a := 0) (b := 32) (n := 32) (by decide +kernel)
theorem dX40_areSizesRight_24 : decode cX40_areSizesRight 24 = .ok (.aload_n 0, 1) := dc_42 (by decide +kernel)
theorem dX40_areSizesRight_25 : decode cX40_areSizesRight 25 = .ok (.iconst 2, 1) := dc_5 (by decide +kernel)
theorem dX40_areSizesRight_26 : decode cX40_areSizesRight 26 = .ok (.invokestatic 26, 3) := dc_184 (a := 0) (b := 26) (n := 26) (by decide +kernel)
theorem dX40_areSizesRight_29 : decode cX40_areSizesRight 29 = .ok (.if_icmp .ge 60, 3) := dc_162 (a := 0) (b := 60) (v := 60) (by decide +kernel)
theorem dX40_areSizesRight_32 : decode cX40_areSizesRight 32 = .ok (.aload_n 0, 1) := dc_42 (by decide +kernel)
theorem dX40_areSizesRight_33 : decode cX40_areSizesRight 33 = .ok (.iconst 1, 1) := dc_4 (by decide +kernel)
theorem dX40_areSizesRight_34 : decode cX40_areSizesRight 34 = .ok (.iload_n 2, 1) := dc_28 (by decide +kernel)
theorem dX40_areSizesRight_35 : decode cX40_areSizesRight 35 = .ok (.iconst 1, 1) := dc_4 (by decide +kernel)
theorem dX40_areSizesRight_36 : decode cX40_areSizesRight 36 = .ok (.invokestatic 32, 3) := dc_184 (a := 0) (b := 32) (n := 32) (by decide +kernel)
theorem dX40_areSizesRight_39 : decode cX40_areSizesRight 39 = .ok (.bipush 16, 2) := dc_16 (a := 16) (v := 16) (by decide +kernel)
theorem dX40_areSizesRight_41 : decode cX40_areSizesRight 41 = .ok (.idiv, 1) := dc_108 (by decide +kernel)
theorem dX40_areSizesRight_42 : decode cX40_areSizesRight 42 = .ok (.aload_n 0, 1) := dc_42 (by decide +kernel)
theorem dX40_areSizesRight_43 : decode cX40_areSizesRight 43 = .ok (.iconst 3, 1) := dc_6 (by decide +kernel)
theorem dX40_areSizesRight_44 : decode cX40_areSizesRight 44 = .ok (.invokestatic 26, 3) := dc_184 (a := 0) (b := 26) (n := 26) (by decide +kernel)
theorem dX40_areSizesRight_47 : decode cX40_areSizesRight 47 = .ok (.if_icmp .ge 42, 3) := dc_162 (a := 0) (b := 42) (v := 42) (by decide +kernel)
theorem dX40_areSizesRight_50 : decode cX40_areSizesRight 50 = .ok (.aload_n 0, 1) := dc_42 (by decide +kernel)
theorem dX40_areSizesRight_51 : decode cX40_areSizesRight 51 = .ok (.iconst 1, 1) := dc_4 (by decide +kernel)
theorem dX40_areSizesRight_52 : decode cX40_areSizesRight 52 = .ok (.iload_n 2, 1) := dc_28 (by decide +kernel)
theorem dX40_areSizesRight_53 : decode cX40_areSizesRight 53 = .ok (.iconst 1, 1) := dc_4 (by decide +kernel)
theorem dX40_areSizesRight_54 : decode cX40_areSizesRight 54 = .ok (.invokestatic 32, 3) := dc_184 (a := 0) (b := 32) (n := 32) (by decide +kernel)
theorem dX40_areSizesRight_57 : decode cX40_areSizesRight 57 = .ok (.bipush 16, 2) := dc_16 (a := 16) (v := 16) (by decide +kernel)
theorem dX40_areSizesRight_59 : decode cX40_areSizesRight 59 = .ok (.irem, 1) := dc_112 (by decide +kernel)
theorem dX40_areSizesRight_60 : decode cX40_areSizesRight 60 = .ok (.aload_n 0, 1) := dc_42 (by decide +kernel)
theorem dX40_areSizesRight_61 : decode cX40_areSizesRight 61 = .ok (.iconst 4, 1) := dc_7 (by decide +kernel)
theorem dX40_areSizesRight_62 : decode cX40_areSizesRight 62 = .ok (.invokestatic 26, 3) := dc_184 (a := 0) (b := 26) (n := 26) (by decide +kernel)
theorem dX40_areSizesRight_65 : decode cX40_areSizesRight 65 = .ok (.if_icmp .ge 24, 3) := dc_162 (a := 0) (b := 24) (v := 24) (by decide +kernel)
theorem dX40_areSizesRight_68 : decode cX40_areSizesRight 68 = .ok (.aload_n 0, 1) := dc_42 (by decide +kernel)
theorem dX40_areSizesRight_69 : decode cX40_areSizesRight 69 = .ok (.iconst 1, 1) := dc_4 (by decide +kernel)
theorem dX40_areSizesRight_70 : decode cX40_areSizesRight 70 = .ok (.iload_n 2, 1) := dc_28 (by decide +kernel)
theorem dX40_areSizesRight_71 : decode cX40_areSizesRight 71 = .ok (.iconst 2, 1) := dc_5 (by decide +kernel)
theorem dX40_areSizesRight_72 : decode cX40_areSizesRight 72 = .ok (.invokestatic 32, 3) := dc_184 (a := 0) (b := 32) (n := 32) (by decide +kernel)
theorem dX40_areSizesRight_75 : decode cX40_areSizesRight 75 = .ok (.iconst 4, 1) := dc_7 (by decide +kernel)
theorem dX40_areSizesRight_76 : decode cX40_areSizesRight 76 = .ok (.idiv, 1) := dc_108 (by decide +kernel)
theorem dX40_areSizesRight_77 : decode cX40_areSizesRight 77 = .ok (.aload_n 0, 1) := dc_42 (by decide +kernel)
theorem dX40_areSizesRight_78 : decode cX40_areSizesRight 78 = .ok (.iconst 5, 1) := dc_8 (by decide +kernel)
theorem dX40_areSizesRight_79 : decode cX40_areSizesRight 79 = .ok (.invokestatic 26, 3) := dc_184 (a := 0) (b := 26) (n := 26) (by decide +kernel)
theorem dX40_areSizesRight_82 : decode cX40_areSizesRight 82 = .ok (.if_icmp .ge 7, 3) := dc_162 (a := 0) (b := 7) (v := 7) (by decide +kernel)
theorem dX40_areSizesRight_85 : decode cX40_areSizesRight 85 = .ok (.iconst 1, 1) := dc_4 (by decide +kernel)
theorem dX40_areSizesRight_86 : decode cX40_areSizesRight 86 = .ok (.goto 4, 3) := dc_167 (a := 0) (b := 4) (v := 4) (by decide +kernel)
theorem dX40_areSizesRight_89 : decode cX40_areSizesRight 89 = .ok (.iconst 0, 1) := dc_3 (by decide +kernel)
theorem dX40_areSizesRight_90 : decode cX40_areSizesRight 90 = .ok (.istore_n 1, 1) := dc_60 (by decide +kernel)
theorem dX40_areSizesRight_91 : decode cX40_areSizesRight 91 = .ok (.iinc 2 1, 3) := dc_132 (a := 2) (b := 1) (v := 1) (by decide +kernel)
theorem dX40_areSizesRight_94 : decode cX40_areSizesRight 94 = .ok (.goto (-90), 3) := dc_167 (a := 255) (b := 166) (v := -90) (by decide +kernel)
theorem dX40_areSizesRight_97 : decode cX40_areSizesRight 97 = .ok (.iload_n 1, 1) := dc_27 (by decide +kernel)
theorem dX40_areSizesRight_98 : decode cX40_areSizesRight 98 = .ok (.ireturn, 1) := dc_172 (by decide +kernel)
def fX40_areSizesRight_b90 (N : Nat) (k4 : Nat → Int32 → Int32 → eH → Option (Int32 × eH)) (l0 : Nat) (l2 : Int32) (s0 : Int32) (h : eH) : Option (Int32 × eH) :=
  k4 l0 s0 (l2 + (1 : Int32)) h
theorem pX40_areSizesRight_b90 {w : eW} {d : Nat} (hd : 4 ≤ d + 1) {N : Nat} {k4 : Nat → Int32 → Int32 → eH → Option (Int32 × eH)} (hk4 : ∀ l0 l1 l2 h q, k4 l0 l1 l2 h = some q → wp w (d + 1) YX40_areSizesRight 4 [some (.ref l0), some (.int l1), some (.int l2)] [] h (e_is (e_rn c_I q))) {l0 : Nat} {l2 : Int32} {s0 : Int32} {h : eH} {q} (hf : fX40_areSizesRight_b90 N k4 l0 l2 s0 h = some q) : wp w (d + 1) YX40_areSizesRight 90 [some (.ref l0), none, some (.int l2)] [.int s0] h (e_is (e_rn c_I q)) := by
  unfold fX40_areSizesRight_b90 at hf
  refine w_istore_n dX40_areSizesRight_90 rfl (by decide) (ls' := [some (.ref l0), some (.int s0), some (.int l2)]) rfl ?_
  refine w_iinc dX40_areSizesRight_91 (v := (l2 + (1 : Int32))) rfl rfl (by decide) (ls' := [some (.ref l0), some (.int s0), some (.int (l2 + (1 : Int32)))]) rfl ?_
  refine w_goto 4 dX40_areSizesRight_94 (by decide) ?_
  exact (hk4 _ _ _ _ _ hf).to ⟨rfl, rfl, rfl, trivial⟩
def fX40_areSizesRight_b89 (N : Nat) (k4 : Nat → Int32 → Int32 → eH → Option (Int32 × eH)) (l0 : Nat) (l2 : Int32) (h : eH) : Option (Int32 × eH) :=
  fX40_areSizesRight_b90 N k4 l0 l2 (0 : Int32) h
theorem pX40_areSizesRight_b89 {w : eW} {d : Nat} (hd : 4 ≤ d + 1) {N : Nat} {k4 : Nat → Int32 → Int32 → eH → Option (Int32 × eH)} (hk4 : ∀ l0 l1 l2 h q, k4 l0 l1 l2 h = some q → wp w (d + 1) YX40_areSizesRight 4 [some (.ref l0), some (.int l1), some (.int l2)] [] h (e_is (e_rn c_I q))) {l0 : Nat} {l2 : Int32} {h : eH} {q} (hf : fX40_areSizesRight_b89 N k4 l0 l2 h = some q) : wp w (d + 1) YX40_areSizesRight 89 [some (.ref l0), none, some (.int l2)] [] h (e_is (e_rn c_I q)) := by
  unfold fX40_areSizesRight_b89 at hf
  refine w_iconst dX40_areSizesRight_89 (v := 0) (by decide) ?_
  exact (pX40_areSizesRight_b90 hd hk4 hf).to ⟨rfl, rfl, trivial⟩
def fX40_areSizesRight_b4 (N : Nat) : Nat → Nat → Int32 → Int32 → eH → Option (Int32 × eH)
  | 0, _, _, _, _ => none
  | n + 1, l0, l1, l2, h =>
    (fX40_words l0 (1 : Int32) h).bind fun q1 =>
    if q1.1 ≤ l2 then
      z_r l1 (l1, q1.2)
    else
      if l1 = 0 then
        fX40_areSizesRight_b89 N (fX40_areSizesRight_b4 N n) l0 l2 q1.2
      else
        (fX40_at N l0 (1 : Int32) l2 (0 : Int32) q1.2).bind fun q5 =>
        (fX40_words l0 (2 : Int32) q5.2).bind fun q6 =>
        if q6.1 ≤ q5.1 then
          fX40_areSizesRight_b89 N (fX40_areSizesRight_b4 N n) l0 l2 q6.2
        else
          (fX40_at N l0 (1 : Int32) l2 (1 : Int32) q6.2).bind fun q8 =>
          (fX40_words l0 (3 : Int32) q8.2).bind fun q9 =>
          if q9.1 ≤ (q8.1 / (16 : Int32)) then
            fX40_areSizesRight_b89 N (fX40_areSizesRight_b4 N n) l0 l2 q9.2
          else
            (fX40_at N l0 (1 : Int32) l2 (1 : Int32) q9.2).bind fun q11 =>
            (fX40_words l0 (4 : Int32) q11.2).bind fun q12 =>
            if q12.1 ≤ (q11.1 - q11.1 / (16 : Int32) * (16 : Int32)) then
              fX40_areSizesRight_b89 N (fX40_areSizesRight_b4 N n) l0 l2 q12.2
            else
              (fX40_at N l0 (1 : Int32) l2 (2 : Int32) q12.2).bind fun q14 =>
              (fX40_words l0 (5 : Int32) q14.2).bind fun q15 =>
              if q15.1 ≤ (q14.1 / (4 : Int32)) then
                fX40_areSizesRight_b89 N (fX40_areSizesRight_b4 N n) l0 l2 q15.2
              else
                fX40_areSizesRight_b90 N (fX40_areSizesRight_b4 N n) l0 l2 (1 : Int32) q15.2
theorem pX40_areSizesRight_b4 {w : eW} {d : Nat} (hd : 4 ≤ d + 1) {N : Nat} : ∀ (n : Nat) l0 l1 l2 h q, fX40_areSizesRight_b4 N n l0 l1 l2 h = some q → wp w (d + 1) YX40_areSizesRight 4 [some (.ref l0), some (.int l1), some (.int l2)] [] h (e_is (e_rn c_I q)) := by
  intro n
  induction n with
  | zero => intro l0 l1 l2 h q hf; simp [fX40_areSizesRight_b4] at hf
  | succ n ih =>
    intro l0 l1 l2 h q hf
    rw [fX40_areSizesRight_b4] at hf
    refine w_iload_n dX40_areSizesRight_4 rfl rfl ?_
    refine w_aload_n dX40_areSizesRight_5 rfl rfl ?_
    refine w_iconst dX40_areSizesRight_6 (v := 1) (by decide) ?_
    refine x_cnI hf (e_stS (Yc := YX40_words) (av := [.ref l0, .int (1 : Int32)]) (st := [.int l2]) dX40_areSizesRight_7 q4919 mX40_words) mX40_words.2.2.1 mX40_words.2.2.2.2.1 (Nat.le_of_ble_eq_true rfl) (Nat.le_of_ble_eq_true rfl) (fun q hq => pX40_words (by omega) hq) (fun q1 hf => ?_)
    refine w_icmp_ge 97 dX40_areSizesRight_10 (by decide) (fun c2 => ?_) (fun c2 => ?_)
    · replace hf := (if_pos (show q1.1 ≤ l2 from c2)).symm.trans hf
      refine w_iload_n dX40_areSizesRight_97 rfl rfl ?_
      obtain ⟨b3, rfl⟩ := z_r_some hf
      exact w_iret dX40_areSizesRight_98 rfl b3 rfl
    · replace hf := (if_neg (show ¬ (q1.1 ≤ l2) from c2)).symm.trans hf
      refine w_iload_n dX40_areSizesRight_13 rfl rfl ?_
      refine w_if_eq 89 dX40_areSizesRight_14 (by decide) (fun c4 => ?_) (fun c4 => ?_)
      · replace hf := (if_pos (show l1 = 0 from c4)).symm.trans hf
        exact (pX40_areSizesRight_b89 hd ih hf).to ⟨rfl, rfl, trivial⟩
      · replace hf := (if_neg (show ¬ (l1 = 0) from c4)).symm.trans hf
        refine w_aload_n dX40_areSizesRight_17 rfl rfl ?_
        refine w_iconst dX40_areSizesRight_18 (v := 1) (by decide) ?_
        refine w_iload_n dX40_areSizesRight_19 rfl rfl ?_
        refine w_iconst dX40_areSizesRight_20 (v := 0) (by decide) ?_
        refine x_cnI hf (e_stS (Yc := YX40_at) (av := [.ref l0, .int (1 : Int32), .int l2, .int (0 : Int32)]) (st := []) dX40_areSizesRight_21 q4928 mX40_at) mX40_at.2.2.1 mX40_at.2.2.2.2.1 (Nat.le_of_ble_eq_true rfl) (Nat.le_of_ble_eq_true rfl) (fun q hq => pX40_at (by omega) hq) (fun q5 hf => ?_)
        refine w_aload_n dX40_areSizesRight_24 rfl rfl ?_
        refine w_iconst dX40_areSizesRight_25 (v := 2) (by decide) ?_
        refine x_cnI hf (e_stS (Yc := YX40_words) (av := [.ref l0, .int (2 : Int32)]) (st := [.int q5.1]) dX40_areSizesRight_26 q4919 mX40_words) mX40_words.2.2.1 mX40_words.2.2.2.2.1 (Nat.le_of_ble_eq_true rfl) (Nat.le_of_ble_eq_true rfl) (fun q hq => pX40_words (by omega) hq) (fun q6 hf => ?_)
        refine w_icmp_ge 89 dX40_areSizesRight_29 (by decide) (fun c7 => ?_) (fun c7 => ?_)
        · replace hf := (if_pos (show q6.1 ≤ q5.1 from c7)).symm.trans hf
          exact (pX40_areSizesRight_b89 hd ih hf).to ⟨rfl, rfl, trivial⟩
        · replace hf := (if_neg (show ¬ (q6.1 ≤ q5.1) from c7)).symm.trans hf
          refine w_aload_n dX40_areSizesRight_32 rfl rfl ?_
          refine w_iconst dX40_areSizesRight_33 (v := 1) (by decide) ?_
          refine w_iload_n dX40_areSizesRight_34 rfl rfl ?_
          refine w_iconst dX40_areSizesRight_35 (v := 1) (by decide) ?_
          refine x_cnI hf (e_stS (Yc := YX40_at) (av := [.ref l0, .int (1 : Int32), .int l2, .int (1 : Int32)]) (st := []) dX40_areSizesRight_36 q4928 mX40_at) mX40_at.2.2.1 mX40_at.2.2.2.2.1 (Nat.le_of_ble_eq_true rfl) (Nat.le_of_ble_eq_true rfl) (fun q hq => pX40_at (by omega) hq) (fun q8 hf => ?_)
          refine w_bipush dX40_areSizesRight_39 (v := 16) (by decide) ?_
          refine w_idiv dX40_areSizesRight_41 (by decide) ?_
          refine w_aload_n dX40_areSizesRight_42 rfl rfl ?_
          refine w_iconst dX40_areSizesRight_43 (v := 3) (by decide) ?_
          refine x_cnI hf (e_stS (Yc := YX40_words) (av := [.ref l0, .int (3 : Int32)]) (st := [.int (q8.1 / (16 : Int32))]) dX40_areSizesRight_44 q4919 mX40_words) mX40_words.2.2.1 mX40_words.2.2.2.2.1 (Nat.le_of_ble_eq_true rfl) (Nat.le_of_ble_eq_true rfl) (fun q hq => pX40_words (by omega) hq) (fun q9 hf => ?_)
          refine w_icmp_ge 89 dX40_areSizesRight_47 (by decide) (fun c10 => ?_) (fun c10 => ?_)
          · replace hf := (if_pos (show q9.1 ≤ (q8.1 / (16 : Int32)) from c10)).symm.trans hf
            exact (pX40_areSizesRight_b89 hd ih hf).to ⟨rfl, rfl, trivial⟩
          · replace hf := (if_neg (show ¬ (q9.1 ≤ (q8.1 / (16 : Int32))) from c10)).symm.trans hf
            refine w_aload_n dX40_areSizesRight_50 rfl rfl ?_
            refine w_iconst dX40_areSizesRight_51 (v := 1) (by decide) ?_
            refine w_iload_n dX40_areSizesRight_52 rfl rfl ?_
            refine w_iconst dX40_areSizesRight_53 (v := 1) (by decide) ?_
            refine x_cnI hf (e_stS (Yc := YX40_at) (av := [.ref l0, .int (1 : Int32), .int l2, .int (1 : Int32)]) (st := []) dX40_areSizesRight_54 q4928 mX40_at) mX40_at.2.2.1 mX40_at.2.2.2.2.1 (Nat.le_of_ble_eq_true rfl) (Nat.le_of_ble_eq_true rfl) (fun q hq => pX40_at (by omega) hq) (fun q11 hf => ?_)
            refine w_bipush dX40_areSizesRight_57 (v := 16) (by decide) ?_
            refine w_irem dX40_areSizesRight_59 (by decide) ?_
            refine w_aload_n dX40_areSizesRight_60 rfl rfl ?_
            refine w_iconst dX40_areSizesRight_61 (v := 4) (by decide) ?_
            refine x_cnI hf (e_stS (Yc := YX40_words) (av := [.ref l0, .int (4 : Int32)]) (st := [.int (q11.1 - q11.1 / (16 : Int32) * (16 : Int32))]) dX40_areSizesRight_62 q4919 mX40_words) mX40_words.2.2.1 mX40_words.2.2.2.2.1 (Nat.le_of_ble_eq_true rfl) (Nat.le_of_ble_eq_true rfl) (fun q hq => pX40_words (by omega) hq) (fun q12 hf => ?_)
            refine w_icmp_ge 89 dX40_areSizesRight_65 (by decide) (fun c13 => ?_) (fun c13 => ?_)
            · replace hf := (if_pos (show q12.1 ≤ (q11.1 - q11.1 / (16 : Int32) * (16 : Int32)) from c13)).symm.trans hf
              exact (pX40_areSizesRight_b89 hd ih hf).to ⟨rfl, rfl, trivial⟩
            · replace hf := (if_neg (show ¬ (q12.1 ≤ (q11.1 - q11.1 / (16 : Int32) * (16 : Int32))) from c13)).symm.trans hf
              refine w_aload_n dX40_areSizesRight_68 rfl rfl ?_
              refine w_iconst dX40_areSizesRight_69 (v := 1) (by decide) ?_
              refine w_iload_n dX40_areSizesRight_70 rfl rfl ?_
              refine w_iconst dX40_areSizesRight_71 (v := 2) (by decide) ?_
              refine x_cnI hf (e_stS (Yc := YX40_at) (av := [.ref l0, .int (1 : Int32), .int l2, .int (2 : Int32)]) (st := []) dX40_areSizesRight_72 q4928 mX40_at) mX40_at.2.2.1 mX40_at.2.2.2.2.1 (Nat.le_of_ble_eq_true rfl) (Nat.le_of_ble_eq_true rfl) (fun q hq => pX40_at (by omega) hq) (fun q14 hf => ?_)
              refine w_iconst dX40_areSizesRight_75 (v := 4) (by decide) ?_
              refine w_idiv dX40_areSizesRight_76 (by decide) ?_
              refine w_aload_n dX40_areSizesRight_77 rfl rfl ?_
              refine w_iconst dX40_areSizesRight_78 (v := 5) (by decide) ?_
              refine x_cnI hf (e_stS (Yc := YX40_words) (av := [.ref l0, .int (5 : Int32)]) (st := [.int (q14.1 / (4 : Int32))]) dX40_areSizesRight_79 q4919 mX40_words) mX40_words.2.2.1 mX40_words.2.2.2.2.1 (Nat.le_of_ble_eq_true rfl) (Nat.le_of_ble_eq_true rfl) (fun q hq => pX40_words (by omega) hq) (fun q15 hf => ?_)
              refine w_icmp_ge 89 dX40_areSizesRight_82 (by decide) (fun c16 => ?_) (fun c16 => ?_)
              · replace hf := (if_pos (show q15.1 ≤ (q14.1 / (4 : Int32)) from c16)).symm.trans hf
                exact (pX40_areSizesRight_b89 hd ih hf).to ⟨rfl, rfl, trivial⟩
              · replace hf := (if_neg (show ¬ (q15.1 ≤ (q14.1 / (4 : Int32))) from c16)).symm.trans hf
                refine w_iconst dX40_areSizesRight_85 (v := 1) (by decide) ?_
                refine w_goto 90 dX40_areSizesRight_86 (by decide) ?_
                exact (pX40_areSizesRight_b90 hd ih hf).to ⟨rfl, rfl, trivial⟩
def fX40_areSizesRight (N : Nat) (p0 : Nat) (h : eH) : Option (Int32 × eH) :=
  fX40_areSizesRight_b4 N N p0 (1 : Int32) (0 : Int32) h
theorem pX40_areSizesRight {w : eW} {d : Nat} (hd : 4 ≤ d) {N : Nat} {p0 : Nat} {h : eH} {q} (hf : fX40_areSizesRight N p0 h = some q) : wm w d YX40_areSizesRight [.ref p0] h (e_is (e_rn c_I q)) := by
  obtain ⟨d, rfl⟩ : ∃ e, d = e + 1 := ⟨d - 1, by omega⟩
  show wp w (d + 1) YX40_areSizesRight 0 [some (.ref p0), none, none] [] h _
  unfold fX40_areSizesRight at hf
  refine w_iconst dX40_areSizesRight_0 (v := 1) (by decide) ?_
  refine w_istore_n dX40_areSizesRight_1 rfl (by decide) (ls' := [some (.ref p0), some (.int (1 : Int32)), none]) rfl ?_
  refine w_iconst dX40_areSizesRight_2 (v := 0) (by decide) ?_
  refine w_istore_n dX40_areSizesRight_3 rfl (by decide) (ls' := [some (.ref p0), some (.int (1 : Int32)), some (.int (0 : Int32))]) rfl ?_
  exact (pX40_areSizesRight_b4 hd N _ _ _ _ _ hf).to ⟨rfl, rfl, rfl, trivial⟩
abbrev cX40_isLargerRight : ByteArray := prog_41_method_14_code
def yX40_isLargerRight : MethodName := ⟨RX40, "isLargerRight", "([BI)Z"⟩
def YX40_isLargerRight : eY := (yX40_isLargerRight, cX40_isLargerRight, 4, (Option.some FieldType.boolean), [])
theorem mX40_isLargerRight : e_ms YX40_isLargerRight 2 := ⟨q4948, q483, q4949, by decide, by decide +kernel, (e_sig (by decide +kernel))⟩
theorem dX40_isLargerRight_0 : decode cX40_isLargerRight 0 = .ok (.aload_n 0, 1) := dc_42 (by decide +kernel)
theorem dX40_isLargerRight_1 : decode cX40_isLargerRight 1 = .ok (.iload_n 1, 1) := dc_27 (by decide +kernel)
theorem dX40_isLargerRight_2 : decode cX40_isLargerRight 2 = .ok (.invokestatic 39, 3) := dc_184 (a := 0) (b := 39) (n := 39) (by decide +kernel)
theorem dX40_isLargerRight_5 : decode cX40_isLargerRight 5 = .ok (.istore_n 2, 1) := dc_61 (by decide +kernel)
theorem dX40_isLargerRight_6 : decode cX40_isLargerRight 6 = .ok (.aload_n 0, 1) := dc_42 (by decide +kernel)
theorem dX40_isLargerRight_7 : decode cX40_isLargerRight 7 = .ok (.iload_n 2, 1) := dc_28 (by decide +kernel)
theorem dX40_isLargerRight_8 : decode cX40_isLargerRight 8 = .ok (.invokestatic 42, 3) := dc_184 (a := 0) (b := 42) (n := 42) (by decide +kernel)
theorem dX40_isLargerRight_11 : decode cX40_isLargerRight 11 = .ok (.ifCond .ne 5, 3) := dc_154 (a := 0) (b := 5) (v := 5) (by decide +kernel)
theorem dX40_isLargerRight_14 : decode cX40_isLargerRight 14 = .ok (.iconst 0, 1) := dc_3 (by decide +kernel)
theorem dX40_isLargerRight_15 : decode cX40_isLargerRight 15 = .ok (.ireturn, 1) := dc_172 (by decide +kernel)
theorem dX40_isLargerRight_16 : decode cX40_isLargerRight 16 = .ok (.iconst 0, 1) := dc_3 (by decide +kernel)
theorem dX40_isLargerRight_17 : decode cX40_isLargerRight 17 = .ok (.istore_n 3, 1) := dc_62 (by decide +kernel)
theorem dX40_isLargerRight_18 : decode cX40_isLargerRight 18 = .ok (.iload_n 3, 1) := dc_29 (by decide +kernel)
theorem dX40_isLargerRight_19 : decode cX40_isLargerRight 19 = .ok (.sipush 256, 3) := dc_17 (a := 1) (b := 0) (v := 256) (by decide +kernel)
theorem dX40_isLargerRight_22 : decode cX40_isLargerRight 22 = .ok (.if_icmp .ge 41, 3) := dc_162 (a := 0) (b := 41) (v := 41) (by decide +kernel)
theorem dX40_isLargerRight_25 : decode cX40_isLargerRight 25 = .ok (.iload_n 2, 1) := dc_28 (by decide +kernel)
theorem dX40_isLargerRight_26 : decode cX40_isLargerRight 26 = .ok (.iload_n 1, 1) := dc_27 (by decide +kernel)
theorem dX40_isLargerRight_27 : decode cX40_isLargerRight 27 = .ok (.if_icmp .ne 5, 3) := dc_160 (a := 0) (b := 5) (v := 5) (by decide +kernel)
theorem dX40_isLargerRight_30 : decode cX40_isLargerRight 30 = .ok (.iconst 0, 1) := dc_3 (by decide +kernel)
theorem dX40_isLargerRight_31 : decode cX40_isLargerRight 31 = .ok (.ireturn, 1) := dc_172 (by decide +kernel)
theorem dX40_isLargerRight_32 : decode cX40_isLargerRight 32 = .ok (.aload_n 0, 1) := dc_42 (by decide +kernel)
theorem dX40_isLargerRight_33 : decode cX40_isLargerRight 33 = .ok (.iload_n 2, 1) := dc_28 (by decide +kernel)
theorem dX40_isLargerRight_34 : decode cX40_isLargerRight 34 = .ok (.invokestatic 42, 3) := dc_184 (a := 0) (b := 42) (n := 42) (by decide +kernel)
theorem dX40_isLargerRight_37 : decode cX40_isLargerRight 37 = .ok (.ifCond .eq 12, 3) := dc_153 (a := 0) (b := 12) (v := 12) (by decide +kernel)
theorem dX40_isLargerRight_40 : decode cX40_isLargerRight 40 = .ok (.aload_n 0, 1) := dc_42 (by decide +kernel)
theorem dX40_isLargerRight_41 : decode cX40_isLargerRight 41 = .ok (.iload_n 2, 1) := dc_28 (by decide +kernel)
theorem dX40_isLargerRight_42 : decode cX40_isLargerRight 42 = .ok (.invokestatic 46, 3) := dc_184 (a := 0) (b := 46) (n := 46) (by decide +kernel)
theorem dX40_isLargerRight_45 : decode cX40_isLargerRight 45 = .ok (.iconst 2, 1) := dc_5 (by decide +kernel)
theorem dX40_isLargerRight_46 : decode cX40_isLargerRight 46 = .ok (.if_icmp .eq 5, 3) := dc_159 (a := 0) (b := 5) (v := 5) (by decide +kernel)
theorem dX40_isLargerRight_49 : decode cX40_isLargerRight 49 = .ok (.iconst 1, 1) := dc_4 (by decide +kernel)
theorem dX40_isLargerRight_50 : decode cX40_isLargerRight 50 = .ok (.ireturn, 1) := dc_172 (by decide +kernel)
theorem dX40_isLargerRight_51 : decode cX40_isLargerRight 51 = .ok (.aload_n 0, 1) := dc_42 (by decide +kernel)
theorem dX40_isLargerRight_52 : decode cX40_isLargerRight 52 = .ok (.iload_n 2, 1) := dc_28 (by decide +kernel)
theorem dX40_isLargerRight_53 : decode cX40_isLargerRight 53 = .ok (.invokestatic 39, 3) := dc_184 (a := 0) (b := 39) (n := 39) (by decide +kernel)
theorem dX40_isLargerRight_56 : decode cX40_isLargerRight 56 = .ok (.istore_n 2, 1) := dc_61 (by decide +kernel)
theorem dX40_isLargerRight_57 : decode cX40_isLargerRight 57 = .ok (.iinc 3 1, 3) := dc_132 (a := 3) (b := 1) (v := 1) (by decide +kernel)
theorem dX40_isLargerRight_60 : decode cX40_isLargerRight 60 = .ok (.goto (-42), 3) := dc_167 (a := 255) (b := 214) (v := -42) (by decide +kernel)
theorem dX40_isLargerRight_63 : decode cX40_isLargerRight 63 = .ok (.iconst 1, 1) := dc_4 (by decide +kernel)
theorem dX40_isLargerRight_64 : decode cX40_isLargerRight 64 = .ok (.ireturn, 1) := dc_172 (by decide +kernel)
def fX40_isLargerRight_b49 (N : Nat)  (h : eH) : Option (Int32 × eH) :=
  some ((1 : Int32), h)
theorem pX40_isLargerRight_b49 {w : eW} {d : Nat} (hd : 5 ≤ d + 1) {N : Nat}  {h : eH} {q} (hf : fX40_isLargerRight_b49 N h = some q) : wp w (d + 1) YX40_isLargerRight 49 [none, none, none, none] [] h (e_is (e_rn c_I q)) := by
  unfold fX40_isLargerRight_b49 at hf
  refine w_iconst dX40_isLargerRight_49 (v := 1) (by decide) ?_
  cases hf
  exact w_iret dX40_isLargerRight_50 rfl rfl rfl
def fX40_isLargerRight_b18 (N : Nat) : Nat → Nat → Int32 → Int32 → Int32 → eH → Option (Int32 × eH)
  | 0, _, _, _, _, _ => none
  | n + 1, l0, l1, l2, l3, h =>
    if (256 : Int32) ≤ l3 then
      some ((1 : Int32), h)
    else
      if ¬ l2 = l1 then
        (fX40_isThere N l0 l2 h).bind fun q3 =>
        if q3.1 = 0 then
          fX40_isLargerRight_b49 N q3.2
        else
          (fX40_tag N l0 l2 q3.2).bind fun q5 =>
          if q5.1 = (2 : Int32) then
            (fX40_rest N l0 l2 q5.2).bind fun q7 =>
            fX40_isLargerRight_b18 N n l0 l1 q7.1 (l3 + (1 : Int32)) q7.2
          else
            fX40_isLargerRight_b49 N q5.2
      else
        some ((0 : Int32), h)
theorem pX40_isLargerRight_b18 {w : eW} {d : Nat} (hd : 5 ≤ d + 1) {N : Nat} : ∀ (n : Nat) l0 l1 l2 l3 h q, fX40_isLargerRight_b18 N n l0 l1 l2 l3 h = some q → wp w (d + 1) YX40_isLargerRight 18 [some (.ref l0), some (.int l1), some (.int l2), some (.int l3)] [] h (e_is (e_rn c_I q)) := by
  intro n
  induction n with
  | zero => intro l0 l1 l2 l3 h q hf; simp [fX40_isLargerRight_b18] at hf
  | succ n ih =>
    intro l0 l1 l2 l3 h q hf
    rw [fX40_isLargerRight_b18] at hf
    refine w_iload_n dX40_isLargerRight_18 rfl rfl ?_
    refine w_sipush dX40_isLargerRight_19 (v := 256) (by decide) ?_
    refine w_icmp_ge 63 dX40_isLargerRight_22 (by decide) (fun c1 => ?_) (fun c1 => ?_)
    · replace hf := (if_pos (show (256 : Int32) ≤ l3 from c1)).symm.trans hf
      refine w_iconst dX40_isLargerRight_63 (v := 1) (by decide) ?_
      cases hf
      exact w_iret dX40_isLargerRight_64 rfl rfl rfl
    · replace hf := (if_neg (show ¬ ((256 : Int32) ≤ l3) from c1)).symm.trans hf
      refine w_iload_n dX40_isLargerRight_25 rfl rfl ?_
      refine w_iload_n dX40_isLargerRight_26 rfl rfl ?_
      refine w_icmp_ne 32 dX40_isLargerRight_27 (by decide) (fun c2 => ?_) (fun c2 => ?_)
      · replace hf := (if_pos (show ¬ l2 = l1 from c2)).symm.trans hf
        refine w_aload_n dX40_isLargerRight_32 rfl rfl ?_
        refine w_iload_n dX40_isLargerRight_33 rfl rfl ?_
        refine x_cnI hf (e_stS (Yc := YX40_isThere) (av := [.ref l0, .int l2]) (st := []) dX40_isLargerRight_34 q4938 mX40_isThere) mX40_isThere.2.2.1 mX40_isThere.2.2.2.2.1 (Nat.le_of_ble_eq_true rfl) (Nat.le_of_ble_eq_true rfl) (fun q hq => pX40_isThere (by omega) hq) (fun q3 hf => ?_)
        refine w_if_eq 49 dX40_isLargerRight_37 (by decide) (fun c4 => ?_) (fun c4 => ?_)
        · replace hf := (if_pos (show q3.1 = 0 from c4)).symm.trans hf
          exact (pX40_isLargerRight_b49 hd hf).to trivial
        · replace hf := (if_neg (show ¬ (q3.1 = 0) from c4)).symm.trans hf
          refine w_aload_n dX40_isLargerRight_40 rfl rfl ?_
          refine w_iload_n dX40_isLargerRight_41 rfl rfl ?_
          refine x_cnI hf (e_stS (Yc := YX40_tag) (av := [.ref l0, .int l2]) (st := []) dX40_isLargerRight_42 q4941 mX40_tag) mX40_tag.2.2.1 mX40_tag.2.2.2.2.1 (Nat.le_of_ble_eq_true rfl) (Nat.le_of_ble_eq_true rfl) (fun q hq => pX40_tag (by omega) hq) (fun q5 hf => ?_)
          refine w_iconst dX40_isLargerRight_45 (v := 2) (by decide) ?_
          refine w_icmp_eq 51 dX40_isLargerRight_46 (by decide) (fun c6 => ?_) (fun c6 => ?_)
          · replace hf := (if_pos (show q5.1 = (2 : Int32) from c6)).symm.trans hf
            refine w_aload_n dX40_isLargerRight_51 rfl rfl ?_
            refine w_iload_n dX40_isLargerRight_52 rfl rfl ?_
            refine x_cnI hf (e_stS (Yc := YX40_rest) (av := [.ref l0, .int l2]) (st := []) dX40_isLargerRight_53 q4944 mX40_rest) mX40_rest.2.2.1 mX40_rest.2.2.2.2.1 (Nat.le_of_ble_eq_true rfl) (Nat.le_of_ble_eq_true rfl) (fun q hq => pX40_rest (by omega) hq) (fun q7 hf => ?_)
            refine w_istore_n dX40_isLargerRight_56 rfl (by decide) (ls' := [some (.ref l0), some (.int l1), some (.int q7.1), some (.int l3)]) rfl ?_
            refine w_iinc dX40_isLargerRight_57 (v := (l3 + (1 : Int32))) rfl rfl (by decide) (ls' := [some (.ref l0), some (.int l1), some (.int q7.1), some (.int (l3 + (1 : Int32)))]) rfl ?_
            refine w_goto 18 dX40_isLargerRight_60 (by decide) ?_
            exact (ih _ _ _ _ _ _ hf).to ⟨rfl, rfl, rfl, rfl, trivial⟩
          · replace hf := (if_neg (show ¬ (q5.1 = (2 : Int32)) from c6)).symm.trans hf
            exact (pX40_isLargerRight_b49 hd hf).to trivial
      · replace hf := (if_neg (show ¬ (¬ l2 = l1) from (fun z => z c2))).symm.trans hf
        refine w_iconst dX40_isLargerRight_30 (v := 0) (by decide) ?_
        cases hf
        exact w_iret dX40_isLargerRight_31 rfl rfl rfl
def fX40_isLargerRight (N : Nat) (p0 : Nat) (p1 : Int32) (h : eH) : Option (Int32 × eH) :=
  (fX40_rest N p0 p1 h).bind fun q1 =>
  (fX40_isThere N p0 q1.1 q1.2).bind fun q2 =>
  if ¬ q2.1 = 0 then
    fX40_isLargerRight_b18 N N p0 p1 q1.1 (0 : Int32) q2.2
  else
    some ((0 : Int32), q2.2)
theorem pX40_isLargerRight {w : eW} {d : Nat} (hd : 5 ≤ d) {N : Nat} {p0 : Nat} {p1 : Int32} {h : eH} {q} (hf : fX40_isLargerRight N p0 p1 h = some q) : wm w d YX40_isLargerRight [.ref p0, .int p1] h (e_is (e_rn c_I q)) := by
  obtain ⟨d, rfl⟩ : ∃ e, d = e + 1 := ⟨d - 1, by omega⟩
  show wp w (d + 1) YX40_isLargerRight 0 [some (.ref p0), some (.int p1), none, none] [] h _
  unfold fX40_isLargerRight at hf
  refine w_aload_n dX40_isLargerRight_0 rfl rfl ?_
  refine w_iload_n dX40_isLargerRight_1 rfl rfl ?_
  refine x_cnI hf (e_stS (Yc := YX40_rest) (av := [.ref p0, .int p1]) (st := []) dX40_isLargerRight_2 q4944 mX40_rest) mX40_rest.2.2.1 mX40_rest.2.2.2.2.1 (Nat.le_of_ble_eq_true rfl) (Nat.le_of_ble_eq_true rfl) (fun q hq => pX40_rest (by omega) hq) (fun q1 hf => ?_)
  refine w_istore_n dX40_isLargerRight_5 rfl (by decide) (ls' := [some (.ref p0), some (.int p1), some (.int q1.1), none]) rfl ?_
  refine w_aload_n dX40_isLargerRight_6 rfl rfl ?_
  refine w_iload_n dX40_isLargerRight_7 rfl rfl ?_
  refine x_cnI hf (e_stS (Yc := YX40_isThere) (av := [.ref p0, .int q1.1]) (st := []) dX40_isLargerRight_8 q4938 mX40_isThere) mX40_isThere.2.2.1 mX40_isThere.2.2.2.2.1 (Nat.le_of_ble_eq_true rfl) (Nat.le_of_ble_eq_true rfl) (fun q hq => pX40_isThere (by omega) hq) (fun q2 hf => ?_)
  refine w_if_ne 16 dX40_isLargerRight_11 (by decide) (fun c3 => ?_) (fun c3 => ?_)
  · replace hf := (if_pos (show ¬ q2.1 = 0 from c3)).symm.trans hf
    refine w_iconst dX40_isLargerRight_16 (v := 0) (by decide) ?_
    refine w_istore_n dX40_isLargerRight_17 rfl (by decide) (ls' := [some (.ref p0), some (.int p1), some (.int q1.1), some (.int (0 : Int32))]) rfl ?_
    exact (pX40_isLargerRight_b18 hd N _ _ _ _ _ _ hf).to ⟨rfl, rfl, rfl, rfl, trivial⟩
  · replace hf := (if_neg (show ¬ (¬ q2.1 = 0) from (fun z => z c3))).symm.trans hf
    refine w_iconst dX40_isLargerRight_14 (v := 0) (by decide) ?_
    cases hf
    exact w_iret dX40_isLargerRight_15 rfl rfl rfl
abbrev cX40_areTagsRight : ByteArray := prog_41_method_15_code
def yX40_areTagsRight : MethodName := ⟨RX40, "areTagsRight", "([B)Z"⟩
def YX40_areTagsRight : eY := (yX40_areTagsRight, cX40_areTagsRight, 4, (Option.some FieldType.boolean), [])
theorem mX40_areTagsRight : e_ms YX40_areTagsRight 1 := ⟨q4936, q483, q4937, by decide, by decide +kernel, (e_sig (by decide +kernel))⟩
theorem dX40_areTagsRight_0 : decode cX40_areTagsRight 0 = .ok (.iconst 1, 1) := dc_4 (by decide +kernel)
theorem dX40_areTagsRight_1 : decode cX40_areTagsRight 1 = .ok (.istore_n 1, 1) := dc_60 (by decide +kernel)
theorem dX40_areTagsRight_2 : decode cX40_areTagsRight 2 = .ok (.aload_n 0, 1) := dc_42 (by decide +kernel)
theorem dX40_areTagsRight_3 : decode cX40_areTagsRight 3 = .ok (.iconst 2, 1) := dc_5 (by decide +kernel)
theorem dX40_areTagsRight_4 : decode cX40_areTagsRight 4 = .ok (.invokestatic 22, 3) := dc_184 (a := 0) (b := 22) (n := 22) (by decide +kernel)
theorem dX40_areTagsRight_7 : decode cX40_areTagsRight 7 = .ok (.istore_n 2, 1) := dc_61 (by decide +kernel)
theorem dX40_areTagsRight_8 : decode cX40_areTagsRight 8 = .ok (.iload_n 2, 1) := dc_28 (by decide +kernel)
theorem dX40_areTagsRight_9 : decode cX40_areTagsRight 9 = .ok (.aload_n 0, 1) := dc_42 (by decide +kernel)
theorem dX40_areTagsRight_10 : decode cX40_areTagsRight 10 = .ok (.iconst 3, 1) := dc_6 (by decide +kernel)
theorem dX40_areTagsRight_11 : decode cX40_areTagsRight 11 = .ok (.invokestatic 22, 3) := dc_184 (a := 0) (b := 22) (n := 22) (by decide +kernel)
theorem dX40_areTagsRight_14 : decode cX40_areTagsRight 14 = .ok (.if_icmp .gt 84, 3) := dc_163 (a := 0) (b := 84) (v := 84) (by decide +kernel)
theorem dX40_areTagsRight_17 : decode cX40_areTagsRight 17 = .ok (.aload_n 0, 1) := dc_42 (by decide +kernel)
theorem dX40_areTagsRight_18 : decode cX40_areTagsRight 18 = .ok (.iload_n 2, 1) := dc_28 (by decide +kernel)
theorem dX40_areTagsRight_19 : decode cX40_areTagsRight 19 = .ok (.invokestatic 42, 3) := dc_184 (a := 0) (b := 42) (n := 42) (by decide +kernel)
theorem dX40_areTagsRight_22 : decode cX40_areTagsRight 22 = .ok (.ifCond .eq 70, 3) := dc_153 (a := 0) (b := 70) (v := 70) (by decide +kernel)
theorem dX40_areTagsRight_25 : decode cX40_areTagsRight 25 = .ok (.aload_n 0, 1) := dc_42 (by decide +kernel)
theorem dX40_areTagsRight_26 : decode cX40_areTagsRight 26 = .ok (.iload_n 2, 1) := dc_28 (by decide +kernel)
theorem dX40_areTagsRight_27 : decode cX40_areTagsRight 27 = .ok (.invokestatic 46, 3) := dc_184 (a := 0) (b := 46) (n := 46) (by decide +kernel)
theorem dX40_areTagsRight_30 : decode cX40_areTagsRight 30 = .ok (.istore_n 3, 1) := dc_62 (by decide +kernel)
theorem dX40_areTagsRight_31 : decode cX40_areTagsRight 31 = .ok (.iload_n 1, 1) := dc_27 (by decide +kernel)
theorem dX40_areTagsRight_32 : decode cX40_areTagsRight 32 = .ok (.ifCond .eq 58, 3) := dc_153 (a := 0) (b := 58) (v := 58) (by decide +kernel)
theorem dX40_areTagsRight_35 : decode cX40_areTagsRight 35 = .ok (.iload_n 3, 1) := dc_29 (by decide +kernel)
theorem dX40_areTagsRight_36 : decode cX40_areTagsRight 36 = .ok (.iconst 1, 1) := dc_4 (by decide +kernel)
theorem dX40_areTagsRight_37 : decode cX40_areTagsRight 37 = .ok (.if_icmp .ne 17, 3) := dc_160 (a := 0) (b := 17) (v := 17) (by decide +kernel)
theorem dX40_areTagsRight_40 : decode cX40_areTagsRight 40 = .ok (.aload_n 0, 1) := dc_42 (by decide +kernel)
theorem dX40_areTagsRight_41 : decode cX40_areTagsRight 41 = .ok (.iload_n 2, 1) := dc_28 (by decide +kernel)
theorem dX40_areTagsRight_42 : decode cX40_areTagsRight 42 = .ok (.invokestatic 39, 3) := dc_184 (a := 0) (b := 39) (n := 39) (by decide +kernel)
theorem dX40_areTagsRight_45 : decode cX40_areTagsRight 45 = .ok (.aload_n 0, 1) := dc_42 (by decide +kernel)
theorem dX40_areTagsRight_46 : decode cX40_areTagsRight 46 = .ok (.bipush 6, 2) := dc_16 (a := 6) (v := 6) (by decide +kernel)
theorem dX40_areTagsRight_48 : decode cX40_areTagsRight 48 = .ok (.invokestatic 26, 3) := dc_184 (a := 0) (b := 26) (n := 26) (by decide +kernel)
theorem dX40_areTagsRight_51 : decode cX40_areTagsRight 51 = .ok (.if_icmp .ge 39, 3) := dc_162 (a := 0) (b := 39) (v := 39) (by decide +kernel)
theorem dX40_areTagsRight_54 : decode cX40_areTagsRight 54 = .ok (.iload_n 3, 1) := dc_29 (by decide +kernel)
theorem dX40_areTagsRight_55 : decode cX40_areTagsRight 55 = .ok (.iconst 3, 1) := dc_6 (by decide +kernel)
theorem dX40_areTagsRight_56 : decode cX40_areTagsRight 56 = .ok (.if_icmp .ne 17, 3) := dc_160 (a := 0) (b := 17) (v := 17) (by decide +kernel)
theorem dX40_areTagsRight_59 : decode cX40_areTagsRight 59 = .ok (.aload_n 0, 1) := dc_42 (by decide +kernel)
theorem dX40_areTagsRight_60 : decode cX40_areTagsRight 60 = .ok (.iload_n 2, 1) := dc_28 (by decide +kernel)
theorem dX40_areTagsRight_61 : decode cX40_areTagsRight 61 = .ok (.invokestatic 39, 3) := dc_184 (a := 0) (b := 39) (n := 39) (by decide +kernel)
theorem dX40_areTagsRight_64 : decode cX40_areTagsRight 64 = .ok (.aload_n 0, 1) := dc_42 (by decide +kernel)
theorem dX40_areTagsRight_65 : decode cX40_areTagsRight 65 = .ok (.bipush 8, 2) := dc_16 (a := 8) (v := 8) (by decide +kernel)
theorem dX40_areTagsRight_67 : decode cX40_areTagsRight 67 = .ok (.invokestatic 26, 3) := dc_184 (a := 0) (b := 26) (n := 26) (by decide +kernel)
theorem dX40_areTagsRight_70 : decode cX40_areTagsRight 70 = .ok (.if_icmp .ge 20, 3) := dc_162 (a := 0) (b := 20) (v := 20) (by decide +kernel)
theorem dX40_areTagsRight_73 : decode cX40_areTagsRight 73 = .ok (.iload_n 3, 1) := dc_29 (by decide +kernel)
theorem dX40_areTagsRight_74 : decode cX40_areTagsRight 74 = .ok (.iconst 2, 1) := dc_5 (by decide +kernel)
theorem dX40_areTagsRight_75 : decode cX40_areTagsRight 75 = .ok (.if_icmp .ne 11, 3) := dc_160 (a := 0) (b := 11) (v := 11) (by decide +kernel)
theorem dX40_areTagsRight_78 : decode cX40_areTagsRight 78 = .ok (.aload_n 0, 1) := dc_42 (by decide +kernel)
theorem dX40_areTagsRight_79 : decode cX40_areTagsRight 79 = .ok (.iload_n 2, 1) := dc_28 (by decide +kernel)
theorem dX40_areTagsRight_80 : decode cX40_areTagsRight 80 = .ok (.invokestatic 49, 3) := dc_184 (a := 0) (b := 49) (n := 49) (by decide +kernel)
theorem dX40_areTagsRight_83 : decode cX40_areTagsRight 83 = .ok (.ifCond .eq 7, 3) := dc_153 (a := 0) (b := 7) (v := 7) (by decide +kernel)
theorem dX40_areTagsRight_86 : decode cX40_areTagsRight 86 = .ok (.iconst 1, 1) := dc_4 (by decide +kernel)
theorem dX40_areTagsRight_87 : decode cX40_areTagsRight 87 = .ok (.goto 4, 3) := dc_167 (a := 0) (b := 4) (v := 4) (by decide +kernel)
theorem dX40_areTagsRight_90 : decode cX40_areTagsRight 90 = .ok (.iconst 0, 1) := dc_3 (by decide +kernel)
theorem dX40_areTagsRight_91 : decode cX40_areTagsRight 91 = .ok (.istore_n 1, 1) := dc_60 (by decide +kernel)
theorem dX40_areTagsRight_92 : decode cX40_areTagsRight 92 = .ok (.iinc 2 1, 3) := dc_132 (a := 2) (b := 1) (v := 1) (by decide +kernel)
theorem dX40_areTagsRight_95 : decode cX40_areTagsRight 95 = .ok (.goto (-87), 3) := dc_167 (a := 255) (b := 169) (v := -87) (by decide +kernel)
theorem dX40_areTagsRight_98 : decode cX40_areTagsRight 98 = .ok (.iload_n 1, 1) := dc_27 (by decide +kernel)
theorem dX40_areTagsRight_99 : decode cX40_areTagsRight 99 = .ok (.ireturn, 1) := dc_172 (by decide +kernel)
def fX40_areTagsRight_b92 (N : Nat) (k8 : Nat → Int32 → Int32 → eH → Option (Int32 × eH)) (l0 : Nat) (l1 : Int32) (l2 : Int32) (h : eH) : Option (Int32 × eH) :=
  k8 l0 l1 (l2 + (1 : Int32)) h
theorem pX40_areTagsRight_b92 {w : eW} {d : Nat} (hd : 6 ≤ d + 1) {N : Nat} {k8 : Nat → Int32 → Int32 → eH → Option (Int32 × eH)} (hk8 : ∀ l0 l1 l2 h q, k8 l0 l1 l2 h = some q → wp w (d + 1) YX40_areTagsRight 8 [some (.ref l0), some (.int l1), some (.int l2), none] [] h (e_is (e_rn c_I q))) {l0 : Nat} {l1 : Int32} {l2 : Int32} {h : eH} {q} (hf : fX40_areTagsRight_b92 N k8 l0 l1 l2 h = some q) : wp w (d + 1) YX40_areTagsRight 92 [some (.ref l0), some (.int l1), some (.int l2), none] [] h (e_is (e_rn c_I q)) := by
  unfold fX40_areTagsRight_b92 at hf
  refine w_iinc dX40_areTagsRight_92 (v := (l2 + (1 : Int32))) rfl rfl (by decide) (ls' := [some (.ref l0), some (.int l1), some (.int (l2 + (1 : Int32))), none]) rfl ?_
  refine w_goto 8 dX40_areTagsRight_95 (by decide) ?_
  exact (hk8 _ _ _ _ _ hf).to ⟨rfl, rfl, rfl, trivial⟩
def fX40_areTagsRight_b91 (N : Nat) (k8 : Nat → Int32 → Int32 → eH → Option (Int32 × eH)) (l0 : Nat) (l2 : Int32) (s0 : Int32) (h : eH) : Option (Int32 × eH) :=
  fX40_areTagsRight_b92 N k8 l0 s0 l2 h
theorem pX40_areTagsRight_b91 {w : eW} {d : Nat} (hd : 6 ≤ d + 1) {N : Nat} {k8 : Nat → Int32 → Int32 → eH → Option (Int32 × eH)} (hk8 : ∀ l0 l1 l2 h q, k8 l0 l1 l2 h = some q → wp w (d + 1) YX40_areTagsRight 8 [some (.ref l0), some (.int l1), some (.int l2), none] [] h (e_is (e_rn c_I q))) {l0 : Nat} {l2 : Int32} {s0 : Int32} {h : eH} {q} (hf : fX40_areTagsRight_b91 N k8 l0 l2 s0 h = some q) : wp w (d + 1) YX40_areTagsRight 91 [some (.ref l0), none, some (.int l2), none] [.int s0] h (e_is (e_rn c_I q)) := by
  unfold fX40_areTagsRight_b91 at hf
  refine w_istore_n dX40_areTagsRight_91 rfl (by decide) (ls' := [some (.ref l0), some (.int s0), some (.int l2), none]) rfl ?_
  exact (pX40_areTagsRight_b92 hd hk8 hf).to ⟨rfl, rfl, rfl, trivial⟩
def fX40_areTagsRight_b86 (N : Nat) (k8 : Nat → Int32 → Int32 → eH → Option (Int32 × eH)) (l0 : Nat) (l2 : Int32) (h : eH) : Option (Int32 × eH) :=
  fX40_areTagsRight_b91 N k8 l0 l2 (1 : Int32) h
theorem pX40_areTagsRight_b86 {w : eW} {d : Nat} (hd : 6 ≤ d + 1) {N : Nat} {k8 : Nat → Int32 → Int32 → eH → Option (Int32 × eH)} (hk8 : ∀ l0 l1 l2 h q, k8 l0 l1 l2 h = some q → wp w (d + 1) YX40_areTagsRight 8 [some (.ref l0), some (.int l1), some (.int l2), none] [] h (e_is (e_rn c_I q))) {l0 : Nat} {l2 : Int32} {h : eH} {q} (hf : fX40_areTagsRight_b86 N k8 l0 l2 h = some q) : wp w (d + 1) YX40_areTagsRight 86 [some (.ref l0), none, some (.int l2), none] [] h (e_is (e_rn c_I q)) := by
  unfold fX40_areTagsRight_b86 at hf
  refine w_iconst dX40_areTagsRight_86 (v := 1) (by decide) ?_
  refine w_goto 91 dX40_areTagsRight_87 (by decide) ?_
  exact (pX40_areTagsRight_b91 hd hk8 hf).to ⟨rfl, rfl, trivial⟩
def fX40_areTagsRight_b90 (N : Nat) (k8 : Nat → Int32 → Int32 → eH → Option (Int32 × eH)) (l0 : Nat) (l2 : Int32) (h : eH) : Option (Int32 × eH) :=
  fX40_areTagsRight_b91 N k8 l0 l2 (0 : Int32) h
theorem pX40_areTagsRight_b90 {w : eW} {d : Nat} (hd : 6 ≤ d + 1) {N : Nat} {k8 : Nat → Int32 → Int32 → eH → Option (Int32 × eH)} (hk8 : ∀ l0 l1 l2 h q, k8 l0 l1 l2 h = some q → wp w (d + 1) YX40_areTagsRight 8 [some (.ref l0), some (.int l1), some (.int l2), none] [] h (e_is (e_rn c_I q))) {l0 : Nat} {l2 : Int32} {h : eH} {q} (hf : fX40_areTagsRight_b90 N k8 l0 l2 h = some q) : wp w (d + 1) YX40_areTagsRight 90 [some (.ref l0), none, some (.int l2), none] [] h (e_is (e_rn c_I q)) := by
  unfold fX40_areTagsRight_b90 at hf
  refine w_iconst dX40_areTagsRight_90 (v := 0) (by decide) ?_
  exact (pX40_areTagsRight_b91 hd hk8 hf).to ⟨rfl, rfl, trivial⟩
def fX40_areTagsRight_b73 (N : Nat) (k8 : Nat → Int32 → Int32 → eH → Option (Int32 × eH)) (l0 : Nat) (l2 : Int32) (l3 : Int32) (h : eH) : Option (Int32 × eH) :=
  if ¬ l3 = (2 : Int32) then
    fX40_areTagsRight_b86 N k8 l0 l2 h
  else
    (fX40_isLargerRight N l0 l2 h).bind fun q2 =>
    if q2.1 = 0 then
      fX40_areTagsRight_b90 N k8 l0 l2 q2.2
    else
      fX40_areTagsRight_b86 N k8 l0 l2 q2.2
theorem pX40_areTagsRight_b73 {w : eW} {d : Nat} (hd : 6 ≤ d + 1) {N : Nat} {k8 : Nat → Int32 → Int32 → eH → Option (Int32 × eH)} (hk8 : ∀ l0 l1 l2 h q, k8 l0 l1 l2 h = some q → wp w (d + 1) YX40_areTagsRight 8 [some (.ref l0), some (.int l1), some (.int l2), none] [] h (e_is (e_rn c_I q))) {l0 : Nat} {l2 : Int32} {l3 : Int32} {h : eH} {q} (hf : fX40_areTagsRight_b73 N k8 l0 l2 l3 h = some q) : wp w (d + 1) YX40_areTagsRight 73 [some (.ref l0), none, some (.int l2), some (.int l3)] [] h (e_is (e_rn c_I q)) := by
  unfold fX40_areTagsRight_b73 at hf
  refine w_iload_n dX40_areTagsRight_73 rfl rfl ?_
  refine w_iconst dX40_areTagsRight_74 (v := 2) (by decide) ?_
  refine w_icmp_ne 86 dX40_areTagsRight_75 (by decide) (fun c1 => ?_) (fun c1 => ?_)
  · replace hf := (if_pos (show ¬ l3 = (2 : Int32) from c1)).symm.trans hf
    exact (pX40_areTagsRight_b86 hd hk8 hf).to ⟨rfl, rfl, trivial⟩
  · replace hf := (if_neg (show ¬ (¬ l3 = (2 : Int32)) from (fun z => z c1))).symm.trans hf
    refine w_aload_n dX40_areTagsRight_78 rfl rfl ?_
    refine w_iload_n dX40_areTagsRight_79 rfl rfl ?_
    refine x_cnI hf (e_stS (Yc := YX40_isLargerRight) (av := [.ref l0, .int l2]) (st := []) dX40_areTagsRight_80 q4947 mX40_isLargerRight) mX40_isLargerRight.2.2.1 mX40_isLargerRight.2.2.2.2.1 (Nat.le_of_ble_eq_true rfl) (Nat.le_of_ble_eq_true rfl) (fun q hq => pX40_isLargerRight (by omega) hq) (fun q2 hf => ?_)
    refine w_if_eq 90 dX40_areTagsRight_83 (by decide) (fun c3 => ?_) (fun c3 => ?_)
    · replace hf := (if_pos (show q2.1 = 0 from c3)).symm.trans hf
      exact (pX40_areTagsRight_b90 hd hk8 hf).to ⟨rfl, rfl, trivial⟩
    · replace hf := (if_neg (show ¬ (q2.1 = 0) from c3)).symm.trans hf
      exact (pX40_areTagsRight_b86 hd hk8 hf).to ⟨rfl, rfl, trivial⟩
def fX40_areTagsRight_b54 (N : Nat) (k8 : Nat → Int32 → Int32 → eH → Option (Int32 × eH)) (l0 : Nat) (l2 : Int32) (l3 : Int32) (h : eH) : Option (Int32 × eH) :=
  if ¬ l3 = (3 : Int32) then
    fX40_areTagsRight_b73 N k8 l0 l2 l3 h
  else
    (fX40_rest N l0 l2 h).bind fun q2 =>
    (fX40_words l0 (8 : Int32) q2.2).bind fun q3 =>
    if q3.1 ≤ q2.1 then
      fX40_areTagsRight_b90 N k8 l0 l2 q3.2
    else
      fX40_areTagsRight_b73 N k8 l0 l2 l3 q3.2
theorem pX40_areTagsRight_b54 {w : eW} {d : Nat} (hd : 6 ≤ d + 1) {N : Nat} {k8 : Nat → Int32 → Int32 → eH → Option (Int32 × eH)} (hk8 : ∀ l0 l1 l2 h q, k8 l0 l1 l2 h = some q → wp w (d + 1) YX40_areTagsRight 8 [some (.ref l0), some (.int l1), some (.int l2), none] [] h (e_is (e_rn c_I q))) {l0 : Nat} {l2 : Int32} {l3 : Int32} {h : eH} {q} (hf : fX40_areTagsRight_b54 N k8 l0 l2 l3 h = some q) : wp w (d + 1) YX40_areTagsRight 54 [some (.ref l0), none, some (.int l2), some (.int l3)] [] h (e_is (e_rn c_I q)) := by
  unfold fX40_areTagsRight_b54 at hf
  refine w_iload_n dX40_areTagsRight_54 rfl rfl ?_
  refine w_iconst dX40_areTagsRight_55 (v := 3) (by decide) ?_
  refine w_icmp_ne 73 dX40_areTagsRight_56 (by decide) (fun c1 => ?_) (fun c1 => ?_)
  · replace hf := (if_pos (show ¬ l3 = (3 : Int32) from c1)).symm.trans hf
    exact (pX40_areTagsRight_b73 hd hk8 hf).to ⟨rfl, rfl, rfl, trivial⟩
  · replace hf := (if_neg (show ¬ (¬ l3 = (3 : Int32)) from (fun z => z c1))).symm.trans hf
    refine w_aload_n dX40_areTagsRight_59 rfl rfl ?_
    refine w_iload_n dX40_areTagsRight_60 rfl rfl ?_
    refine x_cnI hf (e_stS (Yc := YX40_rest) (av := [.ref l0, .int l2]) (st := []) dX40_areTagsRight_61 q4944 mX40_rest) mX40_rest.2.2.1 mX40_rest.2.2.2.2.1 (Nat.le_of_ble_eq_true rfl) (Nat.le_of_ble_eq_true rfl) (fun q hq => pX40_rest (by omega) hq) (fun q2 hf => ?_)
    refine w_aload_n dX40_areTagsRight_64 rfl rfl ?_
    refine w_bipush dX40_areTagsRight_65 (v := 8) (by decide) ?_
    refine x_cnI hf (e_stS (Yc := YX40_words) (av := [.ref l0, .int (8 : Int32)]) (st := [.int q2.1]) dX40_areTagsRight_67 q4919 mX40_words) mX40_words.2.2.1 mX40_words.2.2.2.2.1 (Nat.le_of_ble_eq_true rfl) (Nat.le_of_ble_eq_true rfl) (fun q hq => pX40_words (by omega) hq) (fun q3 hf => ?_)
    refine w_icmp_ge 90 dX40_areTagsRight_70 (by decide) (fun c4 => ?_) (fun c4 => ?_)
    · replace hf := (if_pos (show q3.1 ≤ q2.1 from c4)).symm.trans hf
      exact (pX40_areTagsRight_b90 hd hk8 hf).to ⟨rfl, rfl, trivial⟩
    · replace hf := (if_neg (show ¬ (q3.1 ≤ q2.1) from c4)).symm.trans hf
      exact (pX40_areTagsRight_b73 hd hk8 hf).to ⟨rfl, rfl, rfl, trivial⟩
def fX40_areTagsRight_b8 (N : Nat) : Nat → Nat → Int32 → Int32 → eH → Option (Int32 × eH)
  | 0, _, _, _, _ => none
  | n + 1, l0, l1, l2, h =>
    (fX40_half l0 (3 : Int32) h).bind fun q1 =>
    if q1.1 < l2 then
      z_r l1 (l1, q1.2)
    else
      (fX40_isThere N l0 l2 q1.2).bind fun q4 =>
      if q4.1 = 0 then
        fX40_areTagsRight_b92 N (fX40_areTagsRight_b8 N n) l0 l1 l2 q4.2
      else
        (fX40_tag N l0 l2 q4.2).bind fun q6 =>
        if l1 = 0 then
          fX40_areTagsRight_b90 N (fX40_areTagsRight_b8 N n) l0 l2 q6.2
        else
          if ¬ q6.1 = (1 : Int32) then
            fX40_areTagsRight_b54 N (fX40_areTagsRight_b8 N n) l0 l2 q6.1 q6.2
          else
            (fX40_rest N l0 l2 q6.2).bind fun q9 =>
            (fX40_words l0 (6 : Int32) q9.2).bind fun q10 =>
            if q10.1 ≤ q9.1 then
              fX40_areTagsRight_b90 N (fX40_areTagsRight_b8 N n) l0 l2 q10.2
            else
              fX40_areTagsRight_b54 N (fX40_areTagsRight_b8 N n) l0 l2 q6.1 q10.2
theorem pX40_areTagsRight_b8 {w : eW} {d : Nat} (hd : 6 ≤ d + 1) {N : Nat} : ∀ (n : Nat) l0 l1 l2 h q, fX40_areTagsRight_b8 N n l0 l1 l2 h = some q → wp w (d + 1) YX40_areTagsRight 8 [some (.ref l0), some (.int l1), some (.int l2), none] [] h (e_is (e_rn c_I q)) := by
  intro n
  induction n with
  | zero => intro l0 l1 l2 h q hf; simp [fX40_areTagsRight_b8] at hf
  | succ n ih =>
    intro l0 l1 l2 h q hf
    rw [fX40_areTagsRight_b8] at hf
    refine w_iload_n dX40_areTagsRight_8 rfl rfl ?_
    refine w_aload_n dX40_areTagsRight_9 rfl rfl ?_
    refine w_iconst dX40_areTagsRight_10 (v := 3) (by decide) ?_
    refine x_cnI hf (e_stS (Yc := YX40_half) (av := [.ref l0, .int (3 : Int32)]) (st := [.int l2]) dX40_areTagsRight_11 q4916 mX40_half) mX40_half.2.2.1 mX40_half.2.2.2.2.1 (Nat.le_of_ble_eq_true rfl) (Nat.le_of_ble_eq_true rfl) (fun q hq => pX40_half (by omega) hq) (fun q1 hf => ?_)
    refine w_icmp_gt 98 dX40_areTagsRight_14 (by decide) (fun c2 => ?_) (fun c2 => ?_)
    · replace hf := (if_pos (show q1.1 < l2 from c2)).symm.trans hf
      refine w_iload_n dX40_areTagsRight_98 rfl rfl ?_
      obtain ⟨b3, rfl⟩ := z_r_some hf
      exact w_iret dX40_areTagsRight_99 rfl b3 rfl
    · replace hf := (if_neg (show ¬ (q1.1 < l2) from c2)).symm.trans hf
      refine w_aload_n dX40_areTagsRight_17 rfl rfl ?_
      refine w_iload_n dX40_areTagsRight_18 rfl rfl ?_
      refine x_cnI hf (e_stS (Yc := YX40_isThere) (av := [.ref l0, .int l2]) (st := []) dX40_areTagsRight_19 q4938 mX40_isThere) mX40_isThere.2.2.1 mX40_isThere.2.2.2.2.1 (Nat.le_of_ble_eq_true rfl) (Nat.le_of_ble_eq_true rfl) (fun q hq => pX40_isThere (by omega) hq) (fun q4 hf => ?_)
      refine w_if_eq 92 dX40_areTagsRight_22 (by decide) (fun c5 => ?_) (fun c5 => ?_)
      · replace hf := (if_pos (show q4.1 = 0 from c5)).symm.trans hf
        exact (pX40_areTagsRight_b92 hd ih hf).to ⟨rfl, rfl, rfl, trivial⟩
      · replace hf := (if_neg (show ¬ (q4.1 = 0) from c5)).symm.trans hf
        refine w_aload_n dX40_areTagsRight_25 rfl rfl ?_
        refine w_iload_n dX40_areTagsRight_26 rfl rfl ?_
        refine x_cnI hf (e_stS (Yc := YX40_tag) (av := [.ref l0, .int l2]) (st := []) dX40_areTagsRight_27 q4941 mX40_tag) mX40_tag.2.2.1 mX40_tag.2.2.2.2.1 (Nat.le_of_ble_eq_true rfl) (Nat.le_of_ble_eq_true rfl) (fun q hq => pX40_tag (by omega) hq) (fun q6 hf => ?_)
        refine w_istore_n dX40_areTagsRight_30 rfl (by decide) (ls' := [some (.ref l0), some (.int l1), some (.int l2), some (.int q6.1)]) rfl ?_
        refine w_iload_n dX40_areTagsRight_31 rfl rfl ?_
        refine w_if_eq 90 dX40_areTagsRight_32 (by decide) (fun c7 => ?_) (fun c7 => ?_)
        · replace hf := (if_pos (show l1 = 0 from c7)).symm.trans hf
          exact (pX40_areTagsRight_b90 hd ih hf).to ⟨rfl, rfl, trivial⟩
        · replace hf := (if_neg (show ¬ (l1 = 0) from c7)).symm.trans hf
          refine w_iload_n dX40_areTagsRight_35 rfl rfl ?_
          refine w_iconst dX40_areTagsRight_36 (v := 1) (by decide) ?_
          refine w_icmp_ne 54 dX40_areTagsRight_37 (by decide) (fun c8 => ?_) (fun c8 => ?_)
          · replace hf := (if_pos (show ¬ q6.1 = (1 : Int32) from c8)).symm.trans hf
            exact (pX40_areTagsRight_b54 hd ih hf).to ⟨rfl, rfl, rfl, trivial⟩
          · replace hf := (if_neg (show ¬ (¬ q6.1 = (1 : Int32)) from (fun z => z c8))).symm.trans hf
            refine w_aload_n dX40_areTagsRight_40 rfl rfl ?_
            refine w_iload_n dX40_areTagsRight_41 rfl rfl ?_
            refine x_cnI hf (e_stS (Yc := YX40_rest) (av := [.ref l0, .int l2]) (st := []) dX40_areTagsRight_42 q4944 mX40_rest) mX40_rest.2.2.1 mX40_rest.2.2.2.2.1 (Nat.le_of_ble_eq_true rfl) (Nat.le_of_ble_eq_true rfl) (fun q hq => pX40_rest (by omega) hq) (fun q9 hf => ?_)
            refine w_aload_n dX40_areTagsRight_45 rfl rfl ?_
            refine w_bipush dX40_areTagsRight_46 (v := 6) (by decide) ?_
            refine x_cnI hf (e_stS (Yc := YX40_words) (av := [.ref l0, .int (6 : Int32)]) (st := [.int q9.1]) dX40_areTagsRight_48 q4919 mX40_words) mX40_words.2.2.1 mX40_words.2.2.2.2.1 (Nat.le_of_ble_eq_true rfl) (Nat.le_of_ble_eq_true rfl) (fun q hq => pX40_words (by omega) hq) (fun q10 hf => ?_)
            refine w_icmp_ge 90 dX40_areTagsRight_51 (by decide) (fun c11 => ?_) (fun c11 => ?_)
            · replace hf := (if_pos (show q10.1 ≤ q9.1 from c11)).symm.trans hf
              exact (pX40_areTagsRight_b90 hd ih hf).to ⟨rfl, rfl, trivial⟩
            · replace hf := (if_neg (show ¬ (q10.1 ≤ q9.1) from c11)).symm.trans hf
              exact (pX40_areTagsRight_b54 hd ih hf).to ⟨rfl, rfl, rfl, trivial⟩
def fX40_areTagsRight (N : Nat) (p0 : Nat) (h : eH) : Option (Int32 × eH) :=
  (fX40_half p0 (2 : Int32) h).bind fun q1 =>
  fX40_areTagsRight_b8 N N p0 (1 : Int32) q1.1 q1.2
theorem pX40_areTagsRight {w : eW} {d : Nat} (hd : 6 ≤ d) {N : Nat} {p0 : Nat} {h : eH} {q} (hf : fX40_areTagsRight N p0 h = some q) : wm w d YX40_areTagsRight [.ref p0] h (e_is (e_rn c_I q)) := by
  obtain ⟨d, rfl⟩ : ∃ e, d = e + 1 := ⟨d - 1, by omega⟩
  show wp w (d + 1) YX40_areTagsRight 0 [some (.ref p0), none, none, none] [] h _
  unfold fX40_areTagsRight at hf
  refine w_iconst dX40_areTagsRight_0 (v := 1) (by decide) ?_
  refine w_istore_n dX40_areTagsRight_1 rfl (by decide) (ls' := [some (.ref p0), some (.int (1 : Int32)), none, none]) rfl ?_
  refine w_aload_n dX40_areTagsRight_2 rfl rfl ?_
  refine w_iconst dX40_areTagsRight_3 (v := 2) (by decide) ?_
  refine x_cnI hf (e_stS (Yc := YX40_half) (av := [.ref p0, .int (2 : Int32)]) (st := []) dX40_areTagsRight_4 q4916 mX40_half) mX40_half.2.2.1 mX40_half.2.2.2.2.1 (Nat.le_of_ble_eq_true rfl) (Nat.le_of_ble_eq_true rfl) (fun q hq => pX40_half (by omega) hq) (fun q1 hf => ?_)
  refine w_istore_n dX40_areTagsRight_7 rfl (by decide) (ls' := [some (.ref p0), some (.int (1 : Int32)), some (.int q1.1), none]) rfl ?_
  exact (pX40_areTagsRight_b8 hd N _ _ _ _ _ hf).to ⟨rfl, rfl, rfl, trivial⟩
abbrev cX40_areFractions : ByteArray := prog_41_method_16_code
def yX40_areFractions : MethodName := ⟨RX40, "areFractions", "([BII)Z"⟩
def YX40_areFractions : eY := (yX40_areFractions, cX40_areFractions, 5, (Option.some FieldType.boolean), [])
theorem mX40_areFractions : e_ms YX40_areFractions 3 := ⟨q4954, q483, q4955, by decide, by decide +kernel, (e_sig (by decide +kernel))⟩
theorem dX40_areFractions_0 : decode cX40_areFractions 0 = .ok (.iconst 1, 1) := dc_4 (by decide +kernel)
theorem dX40_areFractions_1 : decode cX40_areFractions 1 = .ok (.istore_n 3, 1) := dc_62 (by decide +kernel)
theorem dX40_areFractions_2 : decode cX40_areFractions 2 = .ok (.iload_n 2, 1) := dc_28 (by decide +kernel)
theorem dX40_areFractions_3 : decode cX40_areFractions 3 = .ok (.istore 4, 2) := dc_54 (a := 4) (by decide +kernel)
theorem dX40_areFractions_5 : decode cX40_areFractions 5 = .ok (.iload 4, 2) := dc_21 (a := 4) (by decide +kernel)
theorem dX40_areFractions_7 : decode cX40_areFractions 7 = .ok (.aload_n 0, 1) := dc_42 (by decide +kernel)
theorem dX40_areFractions_8 : decode cX40_areFractions 8 = .ok (.iload_n 1, 1) := dc_27 (by decide +kernel)
theorem dX40_areFractions_9 : decode cX40_areFractions 9 = .ok (.invokestatic 26, 3) := dc_184 (a := 0) (b := 26) (n := 26) (by decide +kernel)
theorem dX40_areFractions_12 : decode cX40_areFractions 12 = .ok (.if_icmp .ge 44, 3) := dc_162 (a := 0) (b := 44) (v := 44) (by decide +kernel)
theorem dX40_areFractions_15 : decode cX40_areFractions 15 = .ok (.iload_n 3, 1) := dc_29 (by decide +kernel)
theorem dX40_areFractions_16 : decode cX40_areFractions 16 = .ok (.ifCond .eq 32, 3) := dc_153 (a := 0) (b := 32) (v := 32) (by decide +kernel)
theorem dX40_areFractions_19 : decode cX40_areFractions 19 = .ok (.aload_n 0, 1) := dc_42 (by decide +kernel)
theorem dX40_areFractions_20 : decode cX40_areFractions 20 = .ok (.iload_n 1, 1) := dc_27 (by decide +kernel)
theorem dX40_areFractions_21 : decode cX40_areFractions 21 = .ok (.iload 4, 2) := dc_21 (a := 4) (by decide +kernel)
theorem dX40_areFractions_23 : decode cX40_areFractions 23 = .ok (.iconst 0, 1) := dc_3 (by decide +kernel)
theorem dX40_areFractions_24 : decode cX40_areFractions 24 = .ok (.invokestatic 32, 3) := dc_184 (a := 0) (b := 32) (n := 32) (by decide +kernel)
theorem dX40_areFractions_27 : decode cX40_areFractions 27 = .ok (.ifCond .eq 17, 3) := dc_153 (a := 0) (b := 17) (v := 17) (by decide +kernel)
theorem dX40_areFractions_30 : decode cX40_areFractions 30 = .ok (.aload_n 0, 1) := dc_42 (by decide +kernel)
theorem dX40_areFractions_31 : decode cX40_areFractions 31 = .ok (.iload_n 1, 1) := dc_27 (by decide +kernel)
theorem dX40_areFractions_32 : decode cX40_areFractions 32 = .ok (.iload 4, 2) := dc_21 (a := 4) (by decide +kernel)
theorem dX40_areFractions_34 : decode cX40_areFractions 34 = .ok (.iconst 0, 1) := dc_3 (by decide +kernel)
theorem dX40_areFractions_35 : decode cX40_areFractions 35 = .ok (.invokestatic 32, 3) := dc_184 (a := 0) (b := 32) (n := 32) (by decide +kernel)
theorem dX40_areFractions_38 : decode cX40_areFractions 38 = .ok (.sipush 255, 3) := dc_17 (a := 0) (b := 255) (v := 255) (by decide +kernel)
theorem dX40_areFractions_41 : decode cX40_areFractions 41 = .ok (.if_icmp .ne 7, 3) := dc_160 (a := 0) (b := 7) (v := 7) (by decide +kernel)
theorem dX40_areFractions_44 : decode cX40_areFractions 44 = .ok (.iconst 1, 1) := dc_4 (by decide +kernel)
theorem dX40_areFractions_45 : decode cX40_areFractions 45 = .ok (.goto 4, 3) := dc_167 (a := 0) (b := 4) (v := 4) (by decide +kernel)
theorem dX40_areFractions_48 : decode cX40_areFractions 48 = .ok (.iconst 0, 1) := dc_3 (by decide +kernel)
theorem dX40_areFractions_49 : decode cX40_areFractions 49 = .ok (.istore_n 3, 1) := dc_62 (by decide +kernel)
theorem dX40_areFractions_50 : decode cX40_areFractions 50 = .ok (.iinc 4 1, 3) := dc_132 (a := 4) (b := 1) (v := 1) (by decide +kernel)
theorem dX40_areFractions_53 : decode cX40_areFractions 53 = .ok (.goto (-48), 3) := dc_167 (a := 255) (b := 208) (v := -48) (by decide +kernel)
theorem dX40_areFractions_56 : decode cX40_areFractions 56 = .ok (.iload_n 3, 1) := dc_29 (by decide +kernel)
theorem dX40_areFractions_57 : decode cX40_areFractions 57 = .ok (.ireturn, 1) := dc_172 (by decide +kernel)
def fX40_areFractions_b49 (N : Nat) (k5 : Nat → Int32 → Int32 → Int32 → eH → Option (Int32 × eH)) (l0 : Nat) (l1 : Int32) (l4 : Int32) (s0 : Int32) (h : eH) : Option (Int32 × eH) :=
  k5 l0 l1 s0 (l4 + (1 : Int32)) h
theorem pX40_areFractions_b49 {w : eW} {d : Nat} (hd : 4 ≤ d + 1) {N : Nat} {k5 : Nat → Int32 → Int32 → Int32 → eH → Option (Int32 × eH)} (hk5 : ∀ l0 l1 l3 l4 h q, k5 l0 l1 l3 l4 h = some q → wp w (d + 1) YX40_areFractions 5 [some (.ref l0), some (.int l1), none, some (.int l3), some (.int l4)] [] h (e_is (e_rn c_I q))) {l0 : Nat} {l1 : Int32} {l4 : Int32} {s0 : Int32} {h : eH} {q} (hf : fX40_areFractions_b49 N k5 l0 l1 l4 s0 h = some q) : wp w (d + 1) YX40_areFractions 49 [some (.ref l0), some (.int l1), none, none, some (.int l4)] [.int s0] h (e_is (e_rn c_I q)) := by
  unfold fX40_areFractions_b49 at hf
  refine w_istore_n dX40_areFractions_49 rfl (by decide) (ls' := [some (.ref l0), some (.int l1), none, some (.int s0), some (.int l4)]) rfl ?_
  refine w_iinc dX40_areFractions_50 (v := (l4 + (1 : Int32))) rfl rfl (by decide) (ls' := [some (.ref l0), some (.int l1), none, some (.int s0), some (.int (l4 + (1 : Int32)))]) rfl ?_
  refine w_goto 5 dX40_areFractions_53 (by decide) ?_
  exact (hk5 _ _ _ _ _ _ hf).to ⟨rfl, rfl, rfl, rfl, trivial⟩
def fX40_areFractions_b44 (N : Nat) (k5 : Nat → Int32 → Int32 → Int32 → eH → Option (Int32 × eH)) (l0 : Nat) (l1 : Int32) (l4 : Int32) (h : eH) : Option (Int32 × eH) :=
  fX40_areFractions_b49 N k5 l0 l1 l4 (1 : Int32) h
theorem pX40_areFractions_b44 {w : eW} {d : Nat} (hd : 4 ≤ d + 1) {N : Nat} {k5 : Nat → Int32 → Int32 → Int32 → eH → Option (Int32 × eH)} (hk5 : ∀ l0 l1 l3 l4 h q, k5 l0 l1 l3 l4 h = some q → wp w (d + 1) YX40_areFractions 5 [some (.ref l0), some (.int l1), none, some (.int l3), some (.int l4)] [] h (e_is (e_rn c_I q))) {l0 : Nat} {l1 : Int32} {l4 : Int32} {h : eH} {q} (hf : fX40_areFractions_b44 N k5 l0 l1 l4 h = some q) : wp w (d + 1) YX40_areFractions 44 [some (.ref l0), some (.int l1), none, none, some (.int l4)] [] h (e_is (e_rn c_I q)) := by
  unfold fX40_areFractions_b44 at hf
  refine w_iconst dX40_areFractions_44 (v := 1) (by decide) ?_
  refine w_goto 49 dX40_areFractions_45 (by decide) ?_
  exact (pX40_areFractions_b49 hd hk5 hf).to ⟨rfl, rfl, rfl, trivial⟩
def fX40_areFractions_b48 (N : Nat) (k5 : Nat → Int32 → Int32 → Int32 → eH → Option (Int32 × eH)) (l0 : Nat) (l1 : Int32) (l4 : Int32) (h : eH) : Option (Int32 × eH) :=
  fX40_areFractions_b49 N k5 l0 l1 l4 (0 : Int32) h
theorem pX40_areFractions_b48 {w : eW} {d : Nat} (hd : 4 ≤ d + 1) {N : Nat} {k5 : Nat → Int32 → Int32 → Int32 → eH → Option (Int32 × eH)} (hk5 : ∀ l0 l1 l3 l4 h q, k5 l0 l1 l3 l4 h = some q → wp w (d + 1) YX40_areFractions 5 [some (.ref l0), some (.int l1), none, some (.int l3), some (.int l4)] [] h (e_is (e_rn c_I q))) {l0 : Nat} {l1 : Int32} {l4 : Int32} {h : eH} {q} (hf : fX40_areFractions_b48 N k5 l0 l1 l4 h = some q) : wp w (d + 1) YX40_areFractions 48 [some (.ref l0), some (.int l1), none, none, some (.int l4)] [] h (e_is (e_rn c_I q)) := by
  unfold fX40_areFractions_b48 at hf
  refine w_iconst dX40_areFractions_48 (v := 0) (by decide) ?_
  exact (pX40_areFractions_b49 hd hk5 hf).to ⟨rfl, rfl, rfl, trivial⟩
def fX40_areFractions_b5 (N : Nat) : Nat → Nat → Int32 → Int32 → Int32 → eH → Option (Int32 × eH)
  | 0, _, _, _, _, _ => none
  | n + 1, l0, l1, l3, l4, h =>
    (fX40_words l0 l1 h).bind fun q1 =>
    if q1.1 ≤ l4 then
      z_r l3 (l3, q1.2)
    else
      if l3 = 0 then
        fX40_areFractions_b48 N (fX40_areFractions_b5 N n) l0 l1 l4 q1.2
      else
        (fX40_at N l0 l1 l4 (0 : Int32) q1.2).bind fun q5 =>
        if q5.1 = 0 then
          fX40_areFractions_b44 N (fX40_areFractions_b5 N n) l0 l1 l4 q5.2
        else
          (fX40_at N l0 l1 l4 (0 : Int32) q5.2).bind fun q7 =>
          if ¬ q7.1 = (255 : Int32) then
            fX40_areFractions_b48 N (fX40_areFractions_b5 N n) l0 l1 l4 q7.2
          else
            fX40_areFractions_b44 N (fX40_areFractions_b5 N n) l0 l1 l4 q7.2
theorem pX40_areFractions_b5 {w : eW} {d : Nat} (hd : 4 ≤ d + 1) {N : Nat} : ∀ (n : Nat) l0 l1 l3 l4 h q, fX40_areFractions_b5 N n l0 l1 l3 l4 h = some q → wp w (d + 1) YX40_areFractions 5 [some (.ref l0), some (.int l1), none, some (.int l3), some (.int l4)] [] h (e_is (e_rn c_I q)) := by
  intro n
  induction n with
  | zero => intro l0 l1 l3 l4 h q hf; simp [fX40_areFractions_b5] at hf
  | succ n ih =>
    intro l0 l1 l3 l4 h q hf
    rw [fX40_areFractions_b5] at hf
    refine w_iload dX40_areFractions_5 rfl ?_
    refine w_aload_n dX40_areFractions_7 rfl rfl ?_
    refine w_iload_n dX40_areFractions_8 rfl rfl ?_
    refine x_cnI hf (e_stS (Yc := YX40_words) (av := [.ref l0, .int l1]) (st := [.int l4]) dX40_areFractions_9 q4919 mX40_words) mX40_words.2.2.1 mX40_words.2.2.2.2.1 (Nat.le_of_ble_eq_true rfl) (Nat.le_of_ble_eq_true rfl) (fun q hq => pX40_words (by omega) hq) (fun q1 hf => ?_)
    refine w_icmp_ge 56 dX40_areFractions_12 (by decide) (fun c2 => ?_) (fun c2 => ?_)
    · replace hf := (if_pos (show q1.1 ≤ l4 from c2)).symm.trans hf
      refine w_iload_n dX40_areFractions_56 rfl rfl ?_
      obtain ⟨b3, rfl⟩ := z_r_some hf
      exact w_iret dX40_areFractions_57 rfl b3 rfl
    · replace hf := (if_neg (show ¬ (q1.1 ≤ l4) from c2)).symm.trans hf
      refine w_iload_n dX40_areFractions_15 rfl rfl ?_
      refine w_if_eq 48 dX40_areFractions_16 (by decide) (fun c4 => ?_) (fun c4 => ?_)
      · replace hf := (if_pos (show l3 = 0 from c4)).symm.trans hf
        exact (pX40_areFractions_b48 hd ih hf).to ⟨rfl, rfl, rfl, trivial⟩
      · replace hf := (if_neg (show ¬ (l3 = 0) from c4)).symm.trans hf
        refine w_aload_n dX40_areFractions_19 rfl rfl ?_
        refine w_iload_n dX40_areFractions_20 rfl rfl ?_
        refine w_iload dX40_areFractions_21 rfl ?_
        refine w_iconst dX40_areFractions_23 (v := 0) (by decide) ?_
        refine x_cnI hf (e_stS (Yc := YX40_at) (av := [.ref l0, .int l1, .int l4, .int (0 : Int32)]) (st := []) dX40_areFractions_24 q4928 mX40_at) mX40_at.2.2.1 mX40_at.2.2.2.2.1 (Nat.le_of_ble_eq_true rfl) (Nat.le_of_ble_eq_true rfl) (fun q hq => pX40_at (by omega) hq) (fun q5 hf => ?_)
        refine w_if_eq 44 dX40_areFractions_27 (by decide) (fun c6 => ?_) (fun c6 => ?_)
        · replace hf := (if_pos (show q5.1 = 0 from c6)).symm.trans hf
          exact (pX40_areFractions_b44 hd ih hf).to ⟨rfl, rfl, rfl, trivial⟩
        · replace hf := (if_neg (show ¬ (q5.1 = 0) from c6)).symm.trans hf
          refine w_aload_n dX40_areFractions_30 rfl rfl ?_
          refine w_iload_n dX40_areFractions_31 rfl rfl ?_
          refine w_iload dX40_areFractions_32 rfl ?_
          refine w_iconst dX40_areFractions_34 (v := 0) (by decide) ?_
          refine x_cnI hf (e_stS (Yc := YX40_at) (av := [.ref l0, .int l1, .int l4, .int (0 : Int32)]) (st := []) dX40_areFractions_35 q4928 mX40_at) mX40_at.2.2.1 mX40_at.2.2.2.2.1 (Nat.le_of_ble_eq_true rfl) (Nat.le_of_ble_eq_true rfl) (fun q hq => pX40_at (by omega) hq) (fun q7 hf => ?_)
          refine w_sipush dX40_areFractions_38 (v := 255) (by decide) ?_
          refine w_icmp_ne 48 dX40_areFractions_41 (by decide) (fun c8 => ?_) (fun c8 => ?_)
          · replace hf := (if_pos (show ¬ q7.1 = (255 : Int32) from c8)).symm.trans hf
            exact (pX40_areFractions_b48 hd ih hf).to ⟨rfl, rfl, rfl, trivial⟩
          · replace hf := (if_neg (show ¬ (¬ q7.1 = (255 : Int32)) from (fun z => z c8))).symm.trans hf
            exact (pX40_areFractions_b44 hd ih hf).to ⟨rfl, rfl, rfl, trivial⟩
def fX40_areFractions (N : Nat) (p0 : Nat) (p1 : Int32) (p2 : Int32) (h : eH) : Option (Int32 × eH) :=
  fX40_areFractions_b5 N N p0 p1 (1 : Int32) p2 h
theorem pX40_areFractions {w : eW} {d : Nat} (hd : 4 ≤ d) {N : Nat} {p0 : Nat} {p1 : Int32} {p2 : Int32} {h : eH} {q} (hf : fX40_areFractions N p0 p1 p2 h = some q) : wm w d YX40_areFractions [.ref p0, .int p1, .int p2] h (e_is (e_rn c_I q)) := by
  obtain ⟨d, rfl⟩ : ∃ e, d = e + 1 := ⟨d - 1, by omega⟩
  show wp w (d + 1) YX40_areFractions 0 [some (.ref p0), some (.int p1), some (.int p2), none, none] [] h _
  unfold fX40_areFractions at hf
  refine w_iconst dX40_areFractions_0 (v := 1) (by decide) ?_
  refine w_istore_n dX40_areFractions_1 rfl (by decide) (ls' := [some (.ref p0), some (.int p1), some (.int p2), some (.int (1 : Int32)), none]) rfl ?_
  refine w_iload_n dX40_areFractions_2 rfl rfl ?_
  refine w_istore dX40_areFractions_3 (by decide) (ls' := [some (.ref p0), some (.int p1), some (.int p2), some (.int (1 : Int32)), some (.int p2)]) rfl ?_
  exact (pX40_areFractions_b5 hd N _ _ _ _ _ _ hf).to ⟨rfl, rfl, rfl, rfl, trivial⟩
abbrev cX40_areTablesRight : ByteArray := prog_41_method_17_code
def yX40_areTablesRight : MethodName := ⟨RX40, "areTablesRight", "([B)Z"⟩
def YX40_areTablesRight : eY := (yX40_areTablesRight, cX40_areTablesRight, 4, (Option.some FieldType.boolean), [])
theorem mX40_areTablesRight : e_ms YX40_areTablesRight 1 := ⟨q4951, q483, q4952, by decide, by decide +kernel, (e_sig (by decide +kernel))⟩
theorem dX40_areTablesRight_0 : decode cX40_areTablesRight 0 = .ok (.aload_n 0, 1) := dc_42 (by decide +kernel)
theorem dX40_areTablesRight_1 : decode cX40_areTablesRight 1 = .ok (.bipush 7, 2) := dc_16 (a := 7) (v := 7) (by decide +kernel)
theorem dX40_areTablesRight_3 : decode cX40_areTablesRight 3 = .ok (.iconst 0, 1) := dc_3 (by decide +kernel)
theorem dX40_areTablesRight_4 : decode cX40_areTablesRight 4 = .ok (.invokestatic 52, 3) := dc_184 (a := 0) (b := 52) (n := 52) (by decide +kernel)
theorem dX40_areTablesRight_7 : decode cX40_areTablesRight 7 = .ok (.istore_n 1, 1) := dc_60 (by decide +kernel)
theorem dX40_areTablesRight_8 : decode cX40_areTablesRight 8 = .ok (.iconst 2, 1) := dc_5 (by decide +kernel)
theorem dX40_areTablesRight_9 : decode cX40_areTablesRight 9 = .ok (.istore_n 2, 1) := dc_61 (by decide +kernel)
theorem dX40_areTablesRight_10 : decode cX40_areTablesRight 10 = .ok (.iload_n 2, 1) := dc_28 (by decide +kernel)
theorem dX40_areTablesRight_11 : decode cX40_areTablesRight 11 = .ok (.bipush 6, 2) := dc_16 (a := 6) (v := 6) (by decide +kernel)
theorem dX40_areTablesRight_13 : decode cX40_areTablesRight 13 = .ok (.if_icmp .ge 61, 3) := dc_162 (a := 0) (b := 61) (v := 61) (by decide +kernel)
theorem dX40_areTablesRight_16 : decode cX40_areTablesRight 16 = .ok (.iload_n 1, 1) := dc_27 (by decide +kernel)
theorem dX40_areTablesRight_17 : decode cX40_areTablesRight 17 = .ok (.ifCond .eq 16, 3) := dc_153 (a := 0) (b := 16) (v := 16) (by decide +kernel)
theorem dX40_areTablesRight_20 : decode cX40_areTablesRight 20 = .ok (.aload_n 0, 1) := dc_42 (by decide +kernel)
theorem dX40_areTablesRight_21 : decode cX40_areTablesRight 21 = .ok (.iload_n 2, 1) := dc_28 (by decide +kernel)
theorem dX40_areTablesRight_22 : decode cX40_areTablesRight 22 = .ok (.iconst 0, 1) := dc_3 (by decide +kernel)
theorem dX40_areTablesRight_23 : decode cX40_areTablesRight 23 = .ok (.invokestatic 52, 3) := dc_184 (a := 0) (b := 52) (n := 52) (by decide +kernel)
theorem dX40_areTablesRight_26 : decode cX40_areTablesRight 26 = .ok (.ifCond .eq 7, 3) := dc_153 (a := 0) (b := 7) (v := 7) (by decide +kernel)
theorem dX40_areTablesRight_29 : decode cX40_areTablesRight 29 = .ok (.iconst 1, 1) := dc_4 (by decide +kernel)
theorem dX40_areTablesRight_30 : decode cX40_areTablesRight 30 = .ok (.goto 4, 3) := dc_167 (a := 0) (b := 4) (v := 4) (by decide +kernel)
theorem dX40_areTablesRight_33 : decode cX40_areTablesRight 33 = .ok (.iconst 0, 1) := dc_3 (by decide +kernel)
theorem dX40_areTablesRight_34 : decode cX40_areTablesRight 34 = .ok (.istore_n 1, 1) := dc_60 (by decide +kernel)
theorem dX40_areTablesRight_35 : decode cX40_areTablesRight 35 = .ok (.iconst 0, 1) := dc_3 (by decide +kernel)
theorem dX40_areTablesRight_36 : decode cX40_areTablesRight 36 = .ok (.istore_n 3, 1) := dc_62 (by decide +kernel)
theorem dX40_areTablesRight_37 : decode cX40_areTablesRight 37 = .ok (.iload_n 3, 1) := dc_29 (by decide +kernel)
theorem dX40_areTablesRight_38 : decode cX40_areTablesRight 38 = .ok (.iconst 4, 1) := dc_7 (by decide +kernel)
theorem dX40_areTablesRight_39 : decode cX40_areTablesRight 39 = .ok (.if_icmp .ge 29, 3) := dc_162 (a := 0) (b := 29) (v := 29) (by decide +kernel)
theorem dX40_areTablesRight_42 : decode cX40_areTablesRight 42 = .ok (.iload_n 1, 1) := dc_27 (by decide +kernel)
theorem dX40_areTablesRight_43 : decode cX40_areTablesRight 43 = .ok (.ifCond .eq 17, 3) := dc_153 (a := 0) (b := 17) (v := 17) (by decide +kernel)
theorem dX40_areTablesRight_46 : decode cX40_areTablesRight 46 = .ok (.aload_n 0, 1) := dc_42 (by decide +kernel)
theorem dX40_areTablesRight_47 : decode cX40_areTablesRight 47 = .ok (.iload_n 2, 1) := dc_28 (by decide +kernel)
theorem dX40_areTablesRight_48 : decode cX40_areTablesRight 48 = .ok (.iconst 0, 1) := dc_3 (by decide +kernel)
theorem dX40_areTablesRight_49 : decode cX40_areTablesRight 49 = .ok (.iload_n 3, 1) := dc_29 (by decide +kernel)
theorem dX40_areTablesRight_50 : decode cX40_areTablesRight 50 = .ok (.invokestatic 32, 3) := dc_184 (a := 0) (b := 32) (n := 32) (by decide +kernel)
theorem dX40_areTablesRight_53 : decode cX40_areTablesRight 53 = .ok (.ifCond .ne 7, 3) := dc_154 (a := 0) (b := 7) (v := 7) (by decide +kernel)
theorem dX40_areTablesRight_56 : decode cX40_areTablesRight 56 = .ok (.iconst 1, 1) := dc_4 (by decide +kernel)
theorem dX40_areTablesRight_57 : decode cX40_areTablesRight 57 = .ok (.goto 4, 3) := dc_167 (a := 0) (b := 4) (v := 4) (by decide +kernel)
theorem dX40_areTablesRight_60 : decode cX40_areTablesRight 60 = .ok (.iconst 0, 1) := dc_3 (by decide +kernel)
theorem dX40_areTablesRight_61 : decode cX40_areTablesRight 61 = .ok (.istore_n 1, 1) := dc_60 (by decide +kernel)
theorem dX40_areTablesRight_62 : decode cX40_areTablesRight 62 = .ok (.iinc 3 1, 3) := dc_132 (a := 3) (b := 1) (v := 1) (by decide +kernel)
theorem dX40_areTablesRight_65 : decode cX40_areTablesRight 65 = .ok (.goto (-28), 3) := dc_167 (a := 255) (b := 228) (v := -28) (by decide +kernel)
theorem dX40_areTablesRight_68 : decode cX40_areTablesRight 68 = .ok (.iinc 2 1, 3) := dc_132 (a := 2) (b := 1) (v := 1) (by decide +kernel)
theorem dX40_areTablesRight_71 : decode cX40_areTablesRight 71 = .ok (.goto (-61), 3) := dc_167 (a := 255) (b := 195) (v := -61) (by decide +kernel)
theorem dX40_areTablesRight_74 : decode cX40_areTablesRight 74 = .ok (.iload_n 1, 1) := dc_27 (by decide +kernel)
theorem dX40_areTablesRight_75 : decode cX40_areTablesRight 75 = .ok (.ireturn, 1) := dc_172 (by decide +kernel)
def fX40_areTablesRight_b61 (N : Nat) (k37 : Nat → Int32 → Int32 → Int32 → eH → Option (Int32 × eH)) (l0 : Nat) (l2 : Int32) (l3 : Int32) (s0 : Int32) (h : eH) : Option (Int32 × eH) :=
  k37 l0 s0 l2 (l3 + (1 : Int32)) h
theorem pX40_areTablesRight_b61 {w : eW} {d : Nat} (hd : 5 ≤ d + 1) {N : Nat} {k37 : Nat → Int32 → Int32 → Int32 → eH → Option (Int32 × eH)} (hk37 : ∀ l0 l1 l2 l3 h q, k37 l0 l1 l2 l3 h = some q → wp w (d + 1) YX40_areTablesRight 37 [some (.ref l0), some (.int l1), some (.int l2), some (.int l3)] [] h (e_is (e_rn c_I q))) {l0 : Nat} {l2 : Int32} {l3 : Int32} {s0 : Int32} {h : eH} {q} (hf : fX40_areTablesRight_b61 N k37 l0 l2 l3 s0 h = some q) : wp w (d + 1) YX40_areTablesRight 61 [some (.ref l0), none, some (.int l2), some (.int l3)] [.int s0] h (e_is (e_rn c_I q)) := by
  unfold fX40_areTablesRight_b61 at hf
  refine w_istore_n dX40_areTablesRight_61 rfl (by decide) (ls' := [some (.ref l0), some (.int s0), some (.int l2), some (.int l3)]) rfl ?_
  refine w_iinc dX40_areTablesRight_62 (v := (l3 + (1 : Int32))) rfl rfl (by decide) (ls' := [some (.ref l0), some (.int s0), some (.int l2), some (.int (l3 + (1 : Int32)))]) rfl ?_
  refine w_goto 37 dX40_areTablesRight_65 (by decide) ?_
  exact (hk37 _ _ _ _ _ _ hf).to ⟨rfl, rfl, rfl, rfl, trivial⟩
def fX40_areTablesRight_b60 (N : Nat) (k37 : Nat → Int32 → Int32 → Int32 → eH → Option (Int32 × eH)) (l0 : Nat) (l2 : Int32) (l3 : Int32) (h : eH) : Option (Int32 × eH) :=
  fX40_areTablesRight_b61 N k37 l0 l2 l3 (0 : Int32) h
theorem pX40_areTablesRight_b60 {w : eW} {d : Nat} (hd : 5 ≤ d + 1) {N : Nat} {k37 : Nat → Int32 → Int32 → Int32 → eH → Option (Int32 × eH)} (hk37 : ∀ l0 l1 l2 l3 h q, k37 l0 l1 l2 l3 h = some q → wp w (d + 1) YX40_areTablesRight 37 [some (.ref l0), some (.int l1), some (.int l2), some (.int l3)] [] h (e_is (e_rn c_I q))) {l0 : Nat} {l2 : Int32} {l3 : Int32} {h : eH} {q} (hf : fX40_areTablesRight_b60 N k37 l0 l2 l3 h = some q) : wp w (d + 1) YX40_areTablesRight 60 [some (.ref l0), none, some (.int l2), some (.int l3)] [] h (e_is (e_rn c_I q)) := by
  unfold fX40_areTablesRight_b60 at hf
  refine w_iconst dX40_areTablesRight_60 (v := 0) (by decide) ?_
  exact (pX40_areTablesRight_b61 hd hk37 hf).to ⟨rfl, rfl, rfl, trivial⟩
def fX40_areTablesRight_b37 (N : Nat) (k10 : Nat → Int32 → Int32 → eH → Option (Int32 × eH)) : Nat → Nat → Int32 → Int32 → Int32 → eH → Option (Int32 × eH)
  | 0, _, _, _, _, _ => none
  | n + 1, l0, l1, l2, l3, h =>
    if (4 : Int32) ≤ l3 then
      k10 l0 l1 (l2 + (1 : Int32)) h
    else
      if l1 = 0 then
        fX40_areTablesRight_b60 N (fX40_areTablesRight_b37 N k10 n) l0 l2 l3 h
      else
        (fX40_at N l0 l2 (0 : Int32) l3 h).bind fun q3 =>
        if ¬ q3.1 = 0 then
          fX40_areTablesRight_b60 N (fX40_areTablesRight_b37 N k10 n) l0 l2 l3 q3.2
        else
          fX40_areTablesRight_b61 N (fX40_areTablesRight_b37 N k10 n) l0 l2 l3 (1 : Int32) q3.2
theorem pX40_areTablesRight_b37 {w : eW} {d : Nat} (hd : 5 ≤ d + 1) {N : Nat} {k10 : Nat → Int32 → Int32 → eH → Option (Int32 × eH)} (hk10 : ∀ l0 l1 l2 h q, k10 l0 l1 l2 h = some q → wp w (d + 1) YX40_areTablesRight 10 [some (.ref l0), some (.int l1), some (.int l2), none] [] h (e_is (e_rn c_I q))) : ∀ (n : Nat) l0 l1 l2 l3 h q, fX40_areTablesRight_b37 N k10 n l0 l1 l2 l3 h = some q → wp w (d + 1) YX40_areTablesRight 37 [some (.ref l0), some (.int l1), some (.int l2), some (.int l3)] [] h (e_is (e_rn c_I q)) := by
  intro n
  induction n with
  | zero => intro l0 l1 l2 l3 h q hf; simp [fX40_areTablesRight_b37] at hf
  | succ n ih =>
    intro l0 l1 l2 l3 h q hf
    rw [fX40_areTablesRight_b37] at hf
    refine w_iload_n dX40_areTablesRight_37 rfl rfl ?_
    refine w_iconst dX40_areTablesRight_38 (v := 4) (by decide) ?_
    refine w_icmp_ge 68 dX40_areTablesRight_39 (by decide) (fun c1 => ?_) (fun c1 => ?_)
    · replace hf := (if_pos (show (4 : Int32) ≤ l3 from c1)).symm.trans hf
      refine w_iinc dX40_areTablesRight_68 (v := (l2 + (1 : Int32))) rfl rfl (by decide) (ls' := [some (.ref l0), some (.int l1), some (.int (l2 + (1 : Int32))), some (.int l3)]) rfl ?_
      refine w_goto 10 dX40_areTablesRight_71 (by decide) ?_
      exact (hk10 _ _ _ _ _ hf).to ⟨rfl, rfl, rfl, trivial⟩
    · replace hf := (if_neg (show ¬ ((4 : Int32) ≤ l3) from c1)).symm.trans hf
      refine w_iload_n dX40_areTablesRight_42 rfl rfl ?_
      refine w_if_eq 60 dX40_areTablesRight_43 (by decide) (fun c2 => ?_) (fun c2 => ?_)
      · replace hf := (if_pos (show l1 = 0 from c2)).symm.trans hf
        exact (pX40_areTablesRight_b60 hd ih hf).to ⟨rfl, rfl, rfl, trivial⟩
      · replace hf := (if_neg (show ¬ (l1 = 0) from c2)).symm.trans hf
        refine w_aload_n dX40_areTablesRight_46 rfl rfl ?_
        refine w_iload_n dX40_areTablesRight_47 rfl rfl ?_
        refine w_iconst dX40_areTablesRight_48 (v := 0) (by decide) ?_
        refine w_iload_n dX40_areTablesRight_49 rfl rfl ?_
        refine x_cnI hf (e_stS (Yc := YX40_at) (av := [.ref l0, .int l2, .int (0 : Int32), .int l3]) (st := []) dX40_areTablesRight_50 q4928 mX40_at) mX40_at.2.2.1 mX40_at.2.2.2.2.1 (Nat.le_of_ble_eq_true rfl) (Nat.le_of_ble_eq_true rfl) (fun q hq => pX40_at (by omega) hq) (fun q3 hf => ?_)
        refine w_if_ne 60 dX40_areTablesRight_53 (by decide) (fun c4 => ?_) (fun c4 => ?_)
        · replace hf := (if_pos (show ¬ q3.1 = 0 from c4)).symm.trans hf
          exact (pX40_areTablesRight_b60 hd ih hf).to ⟨rfl, rfl, rfl, trivial⟩
        · replace hf := (if_neg (show ¬ (¬ q3.1 = 0) from (fun z => z c4))).symm.trans hf
          refine w_iconst dX40_areTablesRight_56 (v := 1) (by decide) ?_
          refine w_goto 61 dX40_areTablesRight_57 (by decide) ?_
          exact (pX40_areTablesRight_b61 hd ih hf).to ⟨rfl, rfl, rfl, trivial⟩
def fX40_areTablesRight_b34 (N : Nat) (k10 : Nat → Int32 → Int32 → eH → Option (Int32 × eH)) (l0 : Nat) (l2 : Int32) (s0 : Int32) (h : eH) : Option (Int32 × eH) :=
  fX40_areTablesRight_b37 N k10 N l0 s0 l2 (0 : Int32) h
theorem pX40_areTablesRight_b34 {w : eW} {d : Nat} (hd : 5 ≤ d + 1) {N : Nat} {k10 : Nat → Int32 → Int32 → eH → Option (Int32 × eH)} (hk10 : ∀ l0 l1 l2 h q, k10 l0 l1 l2 h = some q → wp w (d + 1) YX40_areTablesRight 10 [some (.ref l0), some (.int l1), some (.int l2), none] [] h (e_is (e_rn c_I q))) {l0 : Nat} {l2 : Int32} {s0 : Int32} {h : eH} {q} (hf : fX40_areTablesRight_b34 N k10 l0 l2 s0 h = some q) : wp w (d + 1) YX40_areTablesRight 34 [some (.ref l0), none, some (.int l2), none] [.int s0] h (e_is (e_rn c_I q)) := by
  unfold fX40_areTablesRight_b34 at hf
  refine w_istore_n dX40_areTablesRight_34 rfl (by decide) (ls' := [some (.ref l0), some (.int s0), some (.int l2), none]) rfl ?_
  refine w_iconst dX40_areTablesRight_35 (v := 0) (by decide) ?_
  refine w_istore_n dX40_areTablesRight_36 rfl (by decide) (ls' := [some (.ref l0), some (.int s0), some (.int l2), some (.int (0 : Int32))]) rfl ?_
  exact (pX40_areTablesRight_b37 hd hk10 N _ _ _ _ _ _ hf).to ⟨rfl, rfl, rfl, rfl, trivial⟩
def fX40_areTablesRight_b33 (N : Nat) (k10 : Nat → Int32 → Int32 → eH → Option (Int32 × eH)) (l0 : Nat) (l2 : Int32) (h : eH) : Option (Int32 × eH) :=
  fX40_areTablesRight_b34 N k10 l0 l2 (0 : Int32) h
theorem pX40_areTablesRight_b33 {w : eW} {d : Nat} (hd : 5 ≤ d + 1) {N : Nat} {k10 : Nat → Int32 → Int32 → eH → Option (Int32 × eH)} (hk10 : ∀ l0 l1 l2 h q, k10 l0 l1 l2 h = some q → wp w (d + 1) YX40_areTablesRight 10 [some (.ref l0), some (.int l1), some (.int l2), none] [] h (e_is (e_rn c_I q))) {l0 : Nat} {l2 : Int32} {h : eH} {q} (hf : fX40_areTablesRight_b33 N k10 l0 l2 h = some q) : wp w (d + 1) YX40_areTablesRight 33 [some (.ref l0), none, some (.int l2), none] [] h (e_is (e_rn c_I q)) := by
  unfold fX40_areTablesRight_b33 at hf
  refine w_iconst dX40_areTablesRight_33 (v := 0) (by decide) ?_
  exact (pX40_areTablesRight_b34 hd hk10 hf).to ⟨rfl, rfl, trivial⟩
def fX40_areTablesRight_b10 (N : Nat) : Nat → Nat → Int32 → Int32 → eH → Option (Int32 × eH)
  | 0, _, _, _, _ => none
  | n + 1, l0, l1, l2, h =>
    if (6 : Int32) ≤ l2 then
      z_r l1 (l1, h)
    else
      if l1 = 0 then
        fX40_areTablesRight_b33 N (fX40_areTablesRight_b10 N n) l0 l2 h
      else
        (fX40_areFractions N l0 l2 (0 : Int32) h).bind fun q4 =>
        if q4.1 = 0 then
          fX40_areTablesRight_b33 N (fX40_areTablesRight_b10 N n) l0 l2 q4.2
        else
          fX40_areTablesRight_b34 N (fX40_areTablesRight_b10 N n) l0 l2 (1 : Int32) q4.2
theorem pX40_areTablesRight_b10 {w : eW} {d : Nat} (hd : 5 ≤ d + 1) {N : Nat} : ∀ (n : Nat) l0 l1 l2 h q, fX40_areTablesRight_b10 N n l0 l1 l2 h = some q → wp w (d + 1) YX40_areTablesRight 10 [some (.ref l0), some (.int l1), some (.int l2), none] [] h (e_is (e_rn c_I q)) := by
  intro n
  induction n with
  | zero => intro l0 l1 l2 h q hf; simp [fX40_areTablesRight_b10] at hf
  | succ n ih =>
    intro l0 l1 l2 h q hf
    rw [fX40_areTablesRight_b10] at hf
    refine w_iload_n dX40_areTablesRight_10 rfl rfl ?_
    refine w_bipush dX40_areTablesRight_11 (v := 6) (by decide) ?_
    refine w_icmp_ge 74 dX40_areTablesRight_13 (by decide) (fun c1 => ?_) (fun c1 => ?_)
    · replace hf := (if_pos (show (6 : Int32) ≤ l2 from c1)).symm.trans hf
      refine w_iload_n dX40_areTablesRight_74 rfl rfl ?_
      obtain ⟨b2, rfl⟩ := z_r_some hf
      exact w_iret dX40_areTablesRight_75 rfl b2 rfl
    · replace hf := (if_neg (show ¬ ((6 : Int32) ≤ l2) from c1)).symm.trans hf
      refine w_iload_n dX40_areTablesRight_16 rfl rfl ?_
      refine w_if_eq 33 dX40_areTablesRight_17 (by decide) (fun c3 => ?_) (fun c3 => ?_)
      · replace hf := (if_pos (show l1 = 0 from c3)).symm.trans hf
        exact (pX40_areTablesRight_b33 hd ih hf).to ⟨rfl, rfl, trivial⟩
      · replace hf := (if_neg (show ¬ (l1 = 0) from c3)).symm.trans hf
        refine w_aload_n dX40_areTablesRight_20 rfl rfl ?_
        refine w_iload_n dX40_areTablesRight_21 rfl rfl ?_
        refine w_iconst dX40_areTablesRight_22 (v := 0) (by decide) ?_
        refine x_cnI hf (e_stS (Yc := YX40_areFractions) (av := [.ref l0, .int l2, .int (0 : Int32)]) (st := []) dX40_areTablesRight_23 q4953 mX40_areFractions) mX40_areFractions.2.2.1 mX40_areFractions.2.2.2.2.1 (Nat.le_of_ble_eq_true rfl) (Nat.le_of_ble_eq_true rfl) (fun q hq => pX40_areFractions (by omega) hq) (fun q4 hf => ?_)
        refine w_if_eq 33 dX40_areTablesRight_26 (by decide) (fun c5 => ?_) (fun c5 => ?_)
        · replace hf := (if_pos (show q4.1 = 0 from c5)).symm.trans hf
          exact (pX40_areTablesRight_b33 hd ih hf).to ⟨rfl, rfl, trivial⟩
        · replace hf := (if_neg (show ¬ (q4.1 = 0) from c5)).symm.trans hf
          refine w_iconst dX40_areTablesRight_29 (v := 1) (by decide) ?_
          refine w_goto 34 dX40_areTablesRight_30 (by decide) ?_
          exact (pX40_areTablesRight_b34 hd ih hf).to ⟨rfl, rfl, trivial⟩
def fX40_areTablesRight (N : Nat) (p0 : Nat) (h : eH) : Option (Int32 × eH) :=
  (fX40_areFractions N p0 (7 : Int32) (0 : Int32) h).bind fun q1 =>
  fX40_areTablesRight_b10 N N p0 q1.1 (2 : Int32) q1.2
theorem pX40_areTablesRight {w : eW} {d : Nat} (hd : 5 ≤ d) {N : Nat} {p0 : Nat} {h : eH} {q} (hf : fX40_areTablesRight N p0 h = some q) : wm w d YX40_areTablesRight [.ref p0] h (e_is (e_rn c_I q)) := by
  obtain ⟨d, rfl⟩ : ∃ e, d = e + 1 := ⟨d - 1, by omega⟩
  show wp w (d + 1) YX40_areTablesRight 0 [some (.ref p0), none, none, none] [] h _
  unfold fX40_areTablesRight at hf
  refine w_aload_n dX40_areTablesRight_0 rfl rfl ?_
  refine w_bipush dX40_areTablesRight_1 (v := 7) (by decide) ?_
  refine w_iconst dX40_areTablesRight_3 (v := 0) (by decide) ?_
  refine x_cnI hf (e_stS (Yc := YX40_areFractions) (av := [.ref p0, .int (7 : Int32), .int (0 : Int32)]) (st := []) dX40_areTablesRight_4 q4953 mX40_areFractions) mX40_areFractions.2.2.1 mX40_areFractions.2.2.2.2.1 (Nat.le_of_ble_eq_true rfl) (Nat.le_of_ble_eq_true rfl) (fun q hq => pX40_areFractions (by omega) hq) (fun q1 hf => ?_)
  refine w_istore_n dX40_areTablesRight_7 rfl (by decide) (ls' := [some (.ref p0), some (.int q1.1), none, none]) rfl ?_
  refine w_iconst dX40_areTablesRight_8 (v := 2) (by decide) ?_
  refine w_istore_n dX40_areTablesRight_9 rfl (by decide) (ls' := [some (.ref p0), some (.int q1.1), some (.int (2 : Int32)), none]) rfl ?_
  exact (pX40_areTablesRight_b10 hd N _ _ _ _ _ hf).to ⟨rfl, rfl, rfl, trivial⟩
abbrev cX40_isWordRight : ByteArray := prog_41_method_18_code
def yX40_isWordRight : MethodName := ⟨RX40, "isWordRight", "([BI)Z"⟩
def YX40_isWordRight : eY := (yX40_isWordRight, cX40_isWordRight, 7, (Option.some FieldType.boolean), [])
theorem mX40_isWordRight : e_ms YX40_isWordRight 2 := ⟨q4960, q483, q4961, by decide, by decide +kernel, (e_sig (by decide +kernel))⟩
theorem dX40_isWordRight_0 : decode cX40_isWordRight 0 = .ok (.aload_n 0, 1) := dc_42 (by decide +kernel)
theorem dX40_isWordRight_1 : decode cX40_isWordRight 1 = .ok (.bipush 6, 2) := dc_16 (a := 6) (v := 6) (by decide +kernel)
theorem dX40_isWordRight_3 : decode cX40_isWordRight 3 = .ok (.iload_n 1, 1) := dc_27 (by decide +kernel)
theorem dX40_isWordRight_4 : decode cX40_isWordRight 4 = .ok (.iconst 0, 1) := dc_3 (by decide +kernel)
theorem dX40_isWordRight_5 : decode cX40_isWordRight 5 = .ok (.invokestatic 32, 3) := dc_184 (a := 0) (b := 32) (n := 32) (by decide +kernel)
theorem dX40_isWordRight_8 : decode cX40_isWordRight 8 = .ok (.istore_n 2, 1) := dc_61 (by decide +kernel)
theorem dX40_isWordRight_9 : decode cX40_isWordRight 9 = .ok (.iload_n 2, 1) := dc_28 (by decide +kernel)
theorem dX40_isWordRight_10 : decode cX40_isWordRight 10 = .ok (.sipush 128, 3) := dc_17 (a := 0) (b := 128) (v := 128) (by decide +kernel)
theorem dX40_isWordRight_13 : decode cX40_isWordRight 13 = .ok (.if_icmp .le 23, 3) := dc_164 (a := 0) (b := 23) (v := 23) (by decide +kernel)
theorem dX40_isWordRight_16 : decode cX40_isWordRight 16 = .ok (.aload_n 0, 1) := dc_42 (by decide +kernel)
theorem dX40_isWordRight_17 : decode cX40_isWordRight 17 = .ok (.iload_n 1, 1) := dc_27 (by decide +kernel)
theorem dX40_isWordRight_18 : decode cX40_isWordRight 18 = .ok (.invokestatic 36, 3) := dc_184 (a := 0) (b := 36) (n := 36) (by decide +kernel)
theorem dX40_isWordRight_21 : decode cX40_isWordRight 21 = .ok (.aload_n 0, 1) := dc_42 (by decide +kernel)
theorem dX40_isWordRight_22 : decode cX40_isWordRight 22 = .ok (.bipush 6, 2) := dc_16 (a := 6) (v := 6) (by decide +kernel)
theorem dX40_isWordRight_24 : decode cX40_isWordRight 24 = .ok (.invokestatic 26, 3) := dc_184 (a := 0) (b := 26) (n := 26) (by decide +kernel)
theorem dX40_isWordRight_27 : decode cX40_isWordRight 27 = .ok (.if_icmp .ge 7, 3) := dc_162 (a := 0) (b := 7) (v := 7) (by decide +kernel)
theorem dX40_isWordRight_30 : decode cX40_isWordRight 30 = .ok (.iconst 1, 1) := dc_4 (by decide +kernel)
theorem dX40_isWordRight_31 : decode cX40_isWordRight 31 = .ok (.goto 4, 3) := dc_167 (a := 0) (b := 4) (v := 4) (by decide +kernel)
theorem dX40_isWordRight_34 : decode cX40_isWordRight 34 = .ok (.iconst 0, 1) := dc_3 (by decide +kernel)
theorem dX40_isWordRight_35 : decode cX40_isWordRight 35 = .ok (.ireturn, 1) := dc_172 (by decide +kernel)
theorem dX40_isWordRight_36 : decode cX40_isWordRight 36 = .ok (.aload_n 0, 1) := dc_42 (by decide +kernel)
theorem dX40_isWordRight_37 : decode cX40_isWordRight 37 = .ok (.bipush 6, 2) := dc_16 (a := 6) (v := 6) (by decide +kernel)
theorem dX40_isWordRight_39 : decode cX40_isWordRight 39 = .ok (.iload_n 1, 1) := dc_27 (by decide +kernel)
theorem dX40_isWordRight_40 : decode cX40_isWordRight 40 = .ok (.iconst 1, 1) := dc_4 (by decide +kernel)
theorem dX40_isWordRight_41 : decode cX40_isWordRight 41 = .ok (.invokestatic 32, 3) := dc_184 (a := 0) (b := 32) (n := 32) (by decide +kernel)
theorem dX40_isWordRight_44 : decode cX40_isWordRight 44 = .ok (.istore_n 3, 1) := dc_62 (by decide +kernel)
theorem dX40_isWordRight_45 : decode cX40_isWordRight 45 = .ok (.aload_n 0, 1) := dc_42 (by decide +kernel)
theorem dX40_isWordRight_46 : decode cX40_isWordRight 46 = .ok (.bipush 6, 2) := dc_16 (a := 6) (v := 6) (by decide +kernel)
theorem dX40_isWordRight_48 : decode cX40_isWordRight 48 = .ok (.iload_n 1, 1) := dc_27 (by decide +kernel)
theorem dX40_isWordRight_49 : decode cX40_isWordRight 49 = .ok (.iconst 2, 1) := dc_5 (by decide +kernel)
theorem dX40_isWordRight_50 : decode cX40_isWordRight 50 = .ok (.invokestatic 32, 3) := dc_184 (a := 0) (b := 32) (n := 32) (by decide +kernel)
theorem dX40_isWordRight_53 : decode cX40_isWordRight 53 = .ok (.istore 4, 2) := dc_54 (a := 4) (by decide +kernel)
theorem dX40_isWordRight_55 : decode cX40_isWordRight 55 = .ok (.aload_n 0, 1) := dc_42 (by decide +kernel)
theorem dX40_isWordRight_56 : decode cX40_isWordRight 56 = .ok (.bipush 6, 2) := dc_16 (a := 6) (v := 6) (by decide +kernel)
theorem dX40_isWordRight_58 : decode cX40_isWordRight 58 = .ok (.iload_n 1, 1) := dc_27 (by decide +kernel)
theorem dX40_isWordRight_59 : decode cX40_isWordRight 59 = .ok (.iconst 3, 1) := dc_6 (by decide +kernel)
theorem dX40_isWordRight_60 : decode cX40_isWordRight 60 = .ok (.invokestatic 32, 3) := dc_184 (a := 0) (b := 32) (n := 32) (by decide +kernel)
theorem dX40_isWordRight_63 : decode cX40_isWordRight 63 = .ok (.istore 5, 2) := dc_54 (a := 5) (by decide +kernel)
theorem dX40_isWordRight_65 : decode cX40_isWordRight 65 = .ok (.aload_n 0, 1) := dc_42 (by decide +kernel)
theorem dX40_isWordRight_66 : decode cX40_isWordRight 66 = .ok (.iload_n 3, 1) := dc_29 (by decide +kernel)
theorem dX40_isWordRight_67 : decode cX40_isWordRight 67 = .ok (.invokestatic 42, 3) := dc_184 (a := 0) (b := 42) (n := 42) (by decide +kernel)
theorem dX40_isWordRight_70 : decode cX40_isWordRight 70 = .ok (.ifCond .ne 11, 3) := dc_154 (a := 0) (b := 11) (v := 11) (by decide +kernel)
theorem dX40_isWordRight_73 : decode cX40_isWordRight 73 = .ok (.iload_n 3, 1) := dc_29 (by decide +kernel)
theorem dX40_isWordRight_74 : decode cX40_isWordRight 74 = .ok (.aload_n 0, 1) := dc_42 (by decide +kernel)
theorem dX40_isWordRight_75 : decode cX40_isWordRight 75 = .ok (.invokestatic 56, 3) := dc_184 (a := 0) (b := 56) (n := 56) (by decide +kernel)
theorem dX40_isWordRight_78 : decode cX40_isWordRight 78 = .ok (.if_icmp .ne 7, 3) := dc_160 (a := 0) (b := 7) (v := 7) (by decide +kernel)
theorem dX40_isWordRight_81 : decode cX40_isWordRight 81 = .ok (.iconst 1, 1) := dc_4 (by decide +kernel)
theorem dX40_isWordRight_82 : decode cX40_isWordRight 82 = .ok (.goto 4, 3) := dc_167 (a := 0) (b := 4) (v := 4) (by decide +kernel)
theorem dX40_isWordRight_85 : decode cX40_isWordRight 85 = .ok (.iconst 0, 1) := dc_3 (by decide +kernel)
theorem dX40_isWordRight_86 : decode cX40_isWordRight 86 = .ok (.istore 6, 2) := dc_54 (a := 6) (by decide +kernel)
theorem dX40_isWordRight_88 : decode cX40_isWordRight 88 = .ok (.iload 6, 2) := dc_21 (a := 6) (by decide +kernel)
theorem dX40_isWordRight_90 : decode cX40_isWordRight 90 = .ok (.ifCond .eq 49, 3) := dc_153 (a := 0) (b := 49) (v := 49) (by decide +kernel)
theorem dX40_isWordRight_93 : decode cX40_isWordRight 93 = .ok (.iload 4, 2) := dc_21 (a := 4) (by decide +kernel)
theorem dX40_isWordRight_95 : decode cX40_isWordRight 95 = .ok (.sipush 128, 3) := dc_17 (a := 0) (b := 128) (v := 128) (by decide +kernel)
theorem dX40_isWordRight_98 : decode cX40_isWordRight 98 = .ok (.if_icmp .ge 15, 3) := dc_162 (a := 0) (b := 15) (v := 15) (by decide +kernel)
theorem dX40_isWordRight_101 : decode cX40_isWordRight 101 = .ok (.aload_n 0, 1) := dc_42 (by decide +kernel)
theorem dX40_isWordRight_102 : decode cX40_isWordRight 102 = .ok (.iload 5, 2) := dc_21 (a := 5) (by decide +kernel)
theorem dX40_isWordRight_104 : decode cX40_isWordRight 104 = .ok (.invokestatic 42, 3) := dc_184 (a := 0) (b := 42) (n := 42) (by decide +kernel)
theorem dX40_isWordRight_107 : decode cX40_isWordRight 107 = .ok (.ifCond .eq 32, 3) := dc_153 (a := 0) (b := 32) (v := 32) (by decide +kernel)
theorem dX40_isWordRight_110 : decode cX40_isWordRight 110 = .ok (.goto 25, 3) := dc_167 (a := 0) (b := 25) (v := 25) (by decide +kernel)
theorem dX40_isWordRight_113 : decode cX40_isWordRight 113 = .ok (.sipush 256, 3) := dc_17 (a := 1) (b := 0) (v := 256) (by decide +kernel)
theorem dX40_isWordRight_116 : decode cX40_isWordRight 116 = .ok (.iload 4, 2) := dc_21 (a := 4) (by decide +kernel)
theorem dX40_isWordRight_118 : decode cX40_isWordRight 118 = .ok (.sipush 128, 3) := dc_17 (a := 0) (b := 128) (v := 128) (by decide +kernel)
theorem dX40_isWordRight_121 : decode cX40_isWordRight 121 = .ok (.isub, 1) := dc_100 (by decide +kernel)
theorem dX40_isWordRight_122 : decode cX40_isWordRight 122 = .ok (.imul, 1) := dc_104 (by decide +kernel)
theorem dX40_isWordRight_123 : decode cX40_isWordRight 123 = .ok (.iload 5, 2) := dc_21 (a := 5) (by decide +kernel)
theorem dX40_isWordRight_125 : decode cX40_isWordRight 125 = .ok (.iadd, 1) := dc_96 (by decide +kernel)
theorem dX40_isWordRight_126 : decode cX40_isWordRight 126 = .ok (.aload_n 0, 1) := dc_42 (by decide +kernel)
theorem dX40_isWordRight_127 : decode cX40_isWordRight 127 = .ok (.bipush 7, 2) := dc_16 (a := 7) (v := 7) (by decide +kernel)
theorem dX40_isWordRight_129 : decode cX40_isWordRight 129 = .ok (.invokestatic 26, 3) := dc_184 (a := 0) (b := 26) (n := 26) (by decide +kernel)
theorem dX40_isWordRight_132 : decode cX40_isWordRight 132 = .ok (.if_icmp .ge 7, 3) := dc_162 (a := 0) (b := 7) (v := 7) (by decide +kernel)
theorem dX40_isWordRight_135 : decode cX40_isWordRight 135 = .ok (.iconst 1, 1) := dc_4 (by decide +kernel)
theorem dX40_isWordRight_136 : decode cX40_isWordRight 136 = .ok (.goto 4, 3) := dc_167 (a := 0) (b := 4) (v := 4) (by decide +kernel)
theorem dX40_isWordRight_139 : decode cX40_isWordRight 139 = .ok (.iconst 0, 1) := dc_3 (by decide +kernel)
theorem dX40_isWordRight_140 : decode cX40_isWordRight 140 = .ok (.istore 6, 2) := dc_54 (a := 6) (by decide +kernel)
theorem dX40_isWordRight_142 : decode cX40_isWordRight 142 = .ok (.iload 6, 2) := dc_21 (a := 6) (by decide +kernel)
theorem dX40_isWordRight_144 : decode cX40_isWordRight 144 = .ok (.ifCond .eq 28, 3) := dc_153 (a := 0) (b := 28) (v := 28) (by decide +kernel)
theorem dX40_isWordRight_147 : decode cX40_isWordRight 147 = .ok (.iload_n 2, 1) := dc_28 (by decide +kernel)
theorem dX40_isWordRight_148 : decode cX40_isWordRight 148 = .ok (.sipush 128, 3) := dc_17 (a := 0) (b := 128) (v := 128) (by decide +kernel)
theorem dX40_isWordRight_151 : decode cX40_isWordRight 151 = .ok (.if_icmp .eq 17, 3) := dc_159 (a := 0) (b := 17) (v := 17) (by decide +kernel)
theorem dX40_isWordRight_154 : decode cX40_isWordRight 154 = .ok (.iload_n 1, 1) := dc_27 (by decide +kernel)
theorem dX40_isWordRight_155 : decode cX40_isWordRight 155 = .ok (.iload_n 2, 1) := dc_28 (by decide +kernel)
theorem dX40_isWordRight_156 : decode cX40_isWordRight 156 = .ok (.iadd, 1) := dc_96 (by decide +kernel)
theorem dX40_isWordRight_157 : decode cX40_isWordRight 157 = .ok (.iconst 1, 1) := dc_4 (by decide +kernel)
theorem dX40_isWordRight_158 : decode cX40_isWordRight 158 = .ok (.iadd, 1) := dc_96 (by decide +kernel)
theorem dX40_isWordRight_159 : decode cX40_isWordRight 159 = .ok (.aload_n 0, 1) := dc_42 (by decide +kernel)
theorem dX40_isWordRight_160 : decode cX40_isWordRight 160 = .ok (.bipush 6, 2) := dc_16 (a := 6) (v := 6) (by decide +kernel)
theorem dX40_isWordRight_162 : decode cX40_isWordRight 162 = .ok (.invokestatic 26, 3) := dc_184 (a := 0) (b := 26) (n := 26) (by decide +kernel)
theorem dX40_isWordRight_165 : decode cX40_isWordRight 165 = .ok (.if_icmp .ge 7, 3) := dc_162 (a := 0) (b := 7) (v := 7) (by decide +kernel)
theorem dX40_isWordRight_168 : decode cX40_isWordRight 168 = .ok (.iconst 1, 1) := dc_4 (by decide +kernel)
theorem dX40_isWordRight_169 : decode cX40_isWordRight 169 = .ok (.goto 4, 3) := dc_167 (a := 0) (b := 4) (v := 4) (by decide +kernel)
theorem dX40_isWordRight_172 : decode cX40_isWordRight 172 = .ok (.iconst 0, 1) := dc_3 (by decide +kernel)
theorem dX40_isWordRight_173 : decode cX40_isWordRight 173 = .ok (.ireturn, 1) := dc_172 (by decide +kernel)
def fX40_isWordRight_b35 (N : Nat) (s0 : Int32) (h : eH) : Option (Int32 × eH) :=
  z_r s0 (s0, h)
theorem pX40_isWordRight_b35 {w : eW} {d : Nat} (hd : 5 ≤ d + 1) {N : Nat} {s0 : Int32} {h : eH} {q} (hf : fX40_isWordRight_b35 N s0 h = some q) : wp w (d + 1) YX40_isWordRight 35 [none, none, none, none, none, none, none] [.int s0] h (e_is (e_rn c_I q)) := by
  unfold fX40_isWordRight_b35 at hf
  obtain ⟨b1, rfl⟩ := z_r_some hf
  exact w_iret dX40_isWordRight_35 rfl b1 rfl
def fX40_isWordRight_b173 (N : Nat) (s0 : Int32) (h : eH) : Option (Int32 × eH) :=
  z_r s0 (s0, h)
theorem pX40_isWordRight_b173 {w : eW} {d : Nat} (hd : 5 ≤ d + 1) {N : Nat} {s0 : Int32} {h : eH} {q} (hf : fX40_isWordRight_b173 N s0 h = some q) : wp w (d + 1) YX40_isWordRight 173 [none, none, none, none, none, none, none] [.int s0] h (e_is (e_rn c_I q)) := by
  unfold fX40_isWordRight_b173 at hf
  obtain ⟨b1, rfl⟩ := z_r_some hf
  exact w_iret dX40_isWordRight_173 rfl b1 rfl
def fX40_isWordRight_b168 (N : Nat)  (h : eH) : Option (Int32 × eH) :=
  fX40_isWordRight_b173 N (1 : Int32) h
theorem pX40_isWordRight_b168 {w : eW} {d : Nat} (hd : 5 ≤ d + 1) {N : Nat}  {h : eH} {q} (hf : fX40_isWordRight_b168 N h = some q) : wp w (d + 1) YX40_isWordRight 168 [none, none, none, none, none, none, none] [] h (e_is (e_rn c_I q)) := by
  unfold fX40_isWordRight_b168 at hf
  refine w_iconst dX40_isWordRight_168 (v := 1) (by decide) ?_
  refine w_goto 173 dX40_isWordRight_169 (by decide) ?_
  exact (pX40_isWordRight_b173 hd hf).to trivial
def fX40_isWordRight_b172 (N : Nat)  (h : eH) : Option (Int32 × eH) :=
  fX40_isWordRight_b173 N (0 : Int32) h
theorem pX40_isWordRight_b172 {w : eW} {d : Nat} (hd : 5 ≤ d + 1) {N : Nat}  {h : eH} {q} (hf : fX40_isWordRight_b172 N h = some q) : wp w (d + 1) YX40_isWordRight 172 [none, none, none, none, none, none, none] [] h (e_is (e_rn c_I q)) := by
  unfold fX40_isWordRight_b172 at hf
  refine w_iconst dX40_isWordRight_172 (v := 0) (by decide) ?_
  exact (pX40_isWordRight_b173 hd hf).to trivial
def fX40_isWordRight_b140 (N : Nat) (l0 : Nat) (l1 : Int32) (l2 : Int32) (s0 : Int32) (h : eH) : Option (Int32 × eH) :=
  if s0 = 0 then
    fX40_isWordRight_b172 N h
  else
    if l2 = (128 : Int32) then
      fX40_isWordRight_b168 N h
    else
      (fX40_words l0 (6 : Int32) h).bind fun q3 =>
      if q3.1 ≤ ((l1 + l2) + (1 : Int32)) then
        fX40_isWordRight_b172 N q3.2
      else
        fX40_isWordRight_b168 N q3.2
theorem pX40_isWordRight_b140 {w : eW} {d : Nat} (hd : 5 ≤ d + 1) {N : Nat} {l0 : Nat} {l1 : Int32} {l2 : Int32} {s0 : Int32} {h : eH} {q} (hf : fX40_isWordRight_b140 N l0 l1 l2 s0 h = some q) : wp w (d + 1) YX40_isWordRight 140 [some (.ref l0), some (.int l1), some (.int l2), none, none, none, none] [.int s0] h (e_is (e_rn c_I q)) := by
  unfold fX40_isWordRight_b140 at hf
  refine w_istore dX40_isWordRight_140 (by decide) (ls' := [some (.ref l0), some (.int l1), some (.int l2), none, none, none, some (.int s0)]) rfl ?_
  refine w_iload dX40_isWordRight_142 rfl ?_
  refine w_if_eq 172 dX40_isWordRight_144 (by decide) (fun c1 => ?_) (fun c1 => ?_)
  · replace hf := (if_pos (show s0 = 0 from c1)).symm.trans hf
    exact (pX40_isWordRight_b172 hd hf).to trivial
  · replace hf := (if_neg (show ¬ (s0 = 0) from c1)).symm.trans hf
    refine w_iload_n dX40_isWordRight_147 rfl rfl ?_
    refine w_sipush dX40_isWordRight_148 (v := 128) (by decide) ?_
    refine w_icmp_eq 168 dX40_isWordRight_151 (by decide) (fun c2 => ?_) (fun c2 => ?_)
    · replace hf := (if_pos (show l2 = (128 : Int32) from c2)).symm.trans hf
      exact (pX40_isWordRight_b168 hd hf).to trivial
    · replace hf := (if_neg (show ¬ (l2 = (128 : Int32)) from c2)).symm.trans hf
      refine w_iload_n dX40_isWordRight_154 rfl rfl ?_
      refine w_iload_n dX40_isWordRight_155 rfl rfl ?_
      refine w_iadd dX40_isWordRight_156 ?_
      refine w_iconst dX40_isWordRight_157 (v := 1) (by decide) ?_
      refine w_iadd dX40_isWordRight_158 ?_
      refine w_aload_n dX40_isWordRight_159 rfl rfl ?_
      refine w_bipush dX40_isWordRight_160 (v := 6) (by decide) ?_
      refine x_cnI hf (e_stS (Yc := YX40_words) (av := [.ref l0, .int (6 : Int32)]) (st := [.int ((l1 + l2) + (1 : Int32))]) dX40_isWordRight_162 q4919 mX40_words) mX40_words.2.2.1 mX40_words.2.2.2.2.1 (Nat.le_of_ble_eq_true rfl) (Nat.le_of_ble_eq_true rfl) (fun q hq => pX40_words (by omega) hq) (fun q3 hf => ?_)
      refine w_icmp_ge 172 dX40_isWordRight_165 (by decide) (fun c4 => ?_) (fun c4 => ?_)
      · replace hf := (if_pos (show q3.1 ≤ ((l1 + l2) + (1 : Int32)) from c4)).symm.trans hf
        exact (pX40_isWordRight_b172 hd hf).to trivial
      · replace hf := (if_neg (show ¬ (q3.1 ≤ ((l1 + l2) + (1 : Int32))) from c4)).symm.trans hf
        exact (pX40_isWordRight_b168 hd hf).to trivial
def fX40_isWordRight_b135 (N : Nat) (l0 : Nat) (l1 : Int32) (l2 : Int32) (h : eH) : Option (Int32 × eH) :=
  fX40_isWordRight_b140 N l0 l1 l2 (1 : Int32) h
theorem pX40_isWordRight_b135 {w : eW} {d : Nat} (hd : 5 ≤ d + 1) {N : Nat} {l0 : Nat} {l1 : Int32} {l2 : Int32} {h : eH} {q} (hf : fX40_isWordRight_b135 N l0 l1 l2 h = some q) : wp w (d + 1) YX40_isWordRight 135 [some (.ref l0), some (.int l1), some (.int l2), none, none, none, none] [] h (e_is (e_rn c_I q)) := by
  unfold fX40_isWordRight_b135 at hf
  refine w_iconst dX40_isWordRight_135 (v := 1) (by decide) ?_
  refine w_goto 140 dX40_isWordRight_136 (by decide) ?_
  exact (pX40_isWordRight_b140 hd hf).to ⟨rfl, rfl, rfl, trivial⟩
def fX40_isWordRight_b139 (N : Nat) (l0 : Nat) (l1 : Int32) (l2 : Int32) (h : eH) : Option (Int32 × eH) :=
  fX40_isWordRight_b140 N l0 l1 l2 (0 : Int32) h
theorem pX40_isWordRight_b139 {w : eW} {d : Nat} (hd : 5 ≤ d + 1) {N : Nat} {l0 : Nat} {l1 : Int32} {l2 : Int32} {h : eH} {q} (hf : fX40_isWordRight_b139 N l0 l1 l2 h = some q) : wp w (d + 1) YX40_isWordRight 139 [some (.ref l0), some (.int l1), some (.int l2), none, none, none, none] [] h (e_is (e_rn c_I q)) := by
  unfold fX40_isWordRight_b139 at hf
  refine w_iconst dX40_isWordRight_139 (v := 0) (by decide) ?_
  exact (pX40_isWordRight_b140 hd hf).to ⟨rfl, rfl, rfl, trivial⟩
def fX40_isWordRight_b86 (N : Nat) (l0 : Nat) (l1 : Int32) (l2 : Int32) (l4 : Int32) (l5 : Int32) (s0 : Int32) (h : eH) : Option (Int32 × eH) :=
  if s0 = 0 then
    fX40_isWordRight_b139 N l0 l1 l2 h
  else
    if (128 : Int32) ≤ l4 then
      (fX40_words l0 (7 : Int32) h).bind fun q3 =>
      if q3.1 ≤ (((256 : Int32) * (l4 - (128 : Int32))) + l5) then
        fX40_isWordRight_b139 N l0 l1 l2 q3.2
      else
        fX40_isWordRight_b135 N l0 l1 l2 q3.2
    else
      (fX40_isThere N l0 l5 h).bind fun q5 =>
      if q5.1 = 0 then
        fX40_isWordRight_b139 N l0 l1 l2 q5.2
      else
        fX40_isWordRight_b135 N l0 l1 l2 q5.2
theorem pX40_isWordRight_b86 {w : eW} {d : Nat} (hd : 5 ≤ d + 1) {N : Nat} {l0 : Nat} {l1 : Int32} {l2 : Int32} {l4 : Int32} {l5 : Int32} {s0 : Int32} {h : eH} {q} (hf : fX40_isWordRight_b86 N l0 l1 l2 l4 l5 s0 h = some q) : wp w (d + 1) YX40_isWordRight 86 [some (.ref l0), some (.int l1), some (.int l2), none, some (.int l4), some (.int l5), none] [.int s0] h (e_is (e_rn c_I q)) := by
  unfold fX40_isWordRight_b86 at hf
  refine w_istore dX40_isWordRight_86 (by decide) (ls' := [some (.ref l0), some (.int l1), some (.int l2), none, some (.int l4), some (.int l5), some (.int s0)]) rfl ?_
  refine w_iload dX40_isWordRight_88 rfl ?_
  refine w_if_eq 139 dX40_isWordRight_90 (by decide) (fun c1 => ?_) (fun c1 => ?_)
  · replace hf := (if_pos (show s0 = 0 from c1)).symm.trans hf
    exact (pX40_isWordRight_b139 hd hf).to ⟨rfl, rfl, rfl, trivial⟩
  · replace hf := (if_neg (show ¬ (s0 = 0) from c1)).symm.trans hf
    refine w_iload dX40_isWordRight_93 rfl ?_
    refine w_sipush dX40_isWordRight_95 (v := 128) (by decide) ?_
    refine w_icmp_ge 113 dX40_isWordRight_98 (by decide) (fun c2 => ?_) (fun c2 => ?_)
    · replace hf := (if_pos (show (128 : Int32) ≤ l4 from c2)).symm.trans hf
      refine w_sipush dX40_isWordRight_113 (v := 256) (by decide) ?_
      refine w_iload dX40_isWordRight_116 rfl ?_
      refine w_sipush dX40_isWordRight_118 (v := 128) (by decide) ?_
      refine w_isub dX40_isWordRight_121 ?_
      refine w_imul dX40_isWordRight_122 ?_
      refine w_iload dX40_isWordRight_123 rfl ?_
      refine w_iadd dX40_isWordRight_125 ?_
      refine w_aload_n dX40_isWordRight_126 rfl rfl ?_
      refine w_bipush dX40_isWordRight_127 (v := 7) (by decide) ?_
      refine x_cnI hf (e_stS (Yc := YX40_words) (av := [.ref l0, .int (7 : Int32)]) (st := [.int (((256 : Int32) * (l4 - (128 : Int32))) + l5)]) dX40_isWordRight_129 q4919 mX40_words) mX40_words.2.2.1 mX40_words.2.2.2.2.1 (Nat.le_of_ble_eq_true rfl) (Nat.le_of_ble_eq_true rfl) (fun q hq => pX40_words (by omega) hq) (fun q3 hf => ?_)
      refine w_icmp_ge 139 dX40_isWordRight_132 (by decide) (fun c4 => ?_) (fun c4 => ?_)
      · replace hf := (if_pos (show q3.1 ≤ (((256 : Int32) * (l4 - (128 : Int32))) + l5) from c4)).symm.trans hf
        exact (pX40_isWordRight_b139 hd hf).to ⟨rfl, rfl, rfl, trivial⟩
      · replace hf := (if_neg (show ¬ (q3.1 ≤ (((256 : Int32) * (l4 - (128 : Int32))) + l5)) from c4)).symm.trans hf
        exact (pX40_isWordRight_b135 hd hf).to ⟨rfl, rfl, rfl, trivial⟩
    · replace hf := (if_neg (show ¬ ((128 : Int32) ≤ l4) from c2)).symm.trans hf
      refine w_aload_n dX40_isWordRight_101 rfl rfl ?_
      refine w_iload dX40_isWordRight_102 rfl ?_
      refine x_cnI hf (e_stS (Yc := YX40_isThere) (av := [.ref l0, .int l5]) (st := []) dX40_isWordRight_104 q4938 mX40_isThere) mX40_isThere.2.2.1 mX40_isThere.2.2.2.2.1 (Nat.le_of_ble_eq_true rfl) (Nat.le_of_ble_eq_true rfl) (fun q hq => pX40_isThere (by omega) hq) (fun q5 hf => ?_)
      refine w_if_eq 139 dX40_isWordRight_107 (by decide) (fun c6 => ?_) (fun c6 => ?_)
      · replace hf := (if_pos (show q5.1 = 0 from c6)).symm.trans hf
        exact (pX40_isWordRight_b139 hd hf).to ⟨rfl, rfl, rfl, trivial⟩
      · replace hf := (if_neg (show ¬ (q5.1 = 0) from c6)).symm.trans hf
        refine w_goto 135 dX40_isWordRight_110 (by decide) ?_
        exact (pX40_isWordRight_b135 hd hf).to ⟨rfl, rfl, rfl, trivial⟩
def fX40_isWordRight_b81 (N : Nat) (l0 : Nat) (l1 : Int32) (l2 : Int32) (l4 : Int32) (l5 : Int32) (h : eH) : Option (Int32 × eH) :=
  fX40_isWordRight_b86 N l0 l1 l2 l4 l5 (1 : Int32) h
theorem pX40_isWordRight_b81 {w : eW} {d : Nat} (hd : 5 ≤ d + 1) {N : Nat} {l0 : Nat} {l1 : Int32} {l2 : Int32} {l4 : Int32} {l5 : Int32} {h : eH} {q} (hf : fX40_isWordRight_b81 N l0 l1 l2 l4 l5 h = some q) : wp w (d + 1) YX40_isWordRight 81 [some (.ref l0), some (.int l1), some (.int l2), none, some (.int l4), some (.int l5), none] [] h (e_is (e_rn c_I q)) := by
  unfold fX40_isWordRight_b81 at hf
  refine w_iconst dX40_isWordRight_81 (v := 1) (by decide) ?_
  refine w_goto 86 dX40_isWordRight_82 (by decide) ?_
  exact (pX40_isWordRight_b86 hd hf).to ⟨rfl, rfl, rfl, rfl, rfl, trivial⟩
def fX40_isWordRight (N : Nat) (p0 : Nat) (p1 : Int32) (h : eH) : Option (Int32 × eH) :=
  (fX40_at N p0 (6 : Int32) p1 (0 : Int32) h).bind fun q1 =>
  if q1.1 ≤ (128 : Int32) then
    (fX40_at N p0 (6 : Int32) p1 (1 : Int32) q1.2).bind fun q3 =>
    (fX40_at N p0 (6 : Int32) p1 (2 : Int32) q3.2).bind fun q4 =>
    (fX40_at N p0 (6 : Int32) p1 (3 : Int32) q4.2).bind fun q5 =>
    (fX40_isThere N p0 q3.1 q5.2).bind fun q6 =>
    if ¬ q6.1 = 0 then
      fX40_isWordRight_b81 N p0 p1 q1.1 q4.1 q5.1 q6.2
    else
      (fX40_edgeOf N p0 q6.2).bind fun q8 =>
      if ¬ q3.1 = q8.1 then
        fX40_isWordRight_b86 N p0 p1 q1.1 q4.1 q5.1 (0 : Int32) q8.2
      else
        fX40_isWordRight_b81 N p0 p1 q1.1 q4.1 q5.1 q8.2
  else
    (fX40_far N p0 p1 q1.2).bind fun q10 =>
    (fX40_words p0 (6 : Int32) q10.2).bind fun q11 =>
    if q11.1 ≤ q10.1 then
      fX40_isWordRight_b35 N (0 : Int32) q11.2
    else
      fX40_isWordRight_b35 N (1 : Int32) q11.2
theorem pX40_isWordRight {w : eW} {d : Nat} (hd : 5 ≤ d) {N : Nat} {p0 : Nat} {p1 : Int32} {h : eH} {q} (hf : fX40_isWordRight N p0 p1 h = some q) : wm w d YX40_isWordRight [.ref p0, .int p1] h (e_is (e_rn c_I q)) := by
  obtain ⟨d, rfl⟩ : ∃ e, d = e + 1 := ⟨d - 1, by omega⟩
  show wp w (d + 1) YX40_isWordRight 0 [some (.ref p0), some (.int p1), none, none, none, none, none] [] h _
  unfold fX40_isWordRight at hf
  refine w_aload_n dX40_isWordRight_0 rfl rfl ?_
  refine w_bipush dX40_isWordRight_1 (v := 6) (by decide) ?_
  refine w_iload_n dX40_isWordRight_3 rfl rfl ?_
  refine w_iconst dX40_isWordRight_4 (v := 0) (by decide) ?_
  refine x_cnI hf (e_stS (Yc := YX40_at) (av := [.ref p0, .int (6 : Int32), .int p1, .int (0 : Int32)]) (st := []) dX40_isWordRight_5 q4928 mX40_at) mX40_at.2.2.1 mX40_at.2.2.2.2.1 (Nat.le_of_ble_eq_true rfl) (Nat.le_of_ble_eq_true rfl) (fun q hq => pX40_at (by omega) hq) (fun q1 hf => ?_)
  refine w_istore_n dX40_isWordRight_8 rfl (by decide) (ls' := [some (.ref p0), some (.int p1), some (.int q1.1), none, none, none, none]) rfl ?_
  refine w_iload_n dX40_isWordRight_9 rfl rfl ?_
  refine w_sipush dX40_isWordRight_10 (v := 128) (by decide) ?_
  refine w_icmp_le 36 dX40_isWordRight_13 (by decide) (fun c2 => ?_) (fun c2 => ?_)
  · replace hf := (if_pos (show q1.1 ≤ (128 : Int32) from c2)).symm.trans hf
    refine w_aload_n dX40_isWordRight_36 rfl rfl ?_
    refine w_bipush dX40_isWordRight_37 (v := 6) (by decide) ?_
    refine w_iload_n dX40_isWordRight_39 rfl rfl ?_
    refine w_iconst dX40_isWordRight_40 (v := 1) (by decide) ?_
    refine x_cnI hf (e_stS (Yc := YX40_at) (av := [.ref p0, .int (6 : Int32), .int p1, .int (1 : Int32)]) (st := []) dX40_isWordRight_41 q4928 mX40_at) mX40_at.2.2.1 mX40_at.2.2.2.2.1 (Nat.le_of_ble_eq_true rfl) (Nat.le_of_ble_eq_true rfl) (fun q hq => pX40_at (by omega) hq) (fun q3 hf => ?_)
    refine w_istore_n dX40_isWordRight_44 rfl (by decide) (ls' := [some (.ref p0), some (.int p1), some (.int q1.1), some (.int q3.1), none, none, none]) rfl ?_
    refine w_aload_n dX40_isWordRight_45 rfl rfl ?_
    refine w_bipush dX40_isWordRight_46 (v := 6) (by decide) ?_
    refine w_iload_n dX40_isWordRight_48 rfl rfl ?_
    refine w_iconst dX40_isWordRight_49 (v := 2) (by decide) ?_
    refine x_cnI hf (e_stS (Yc := YX40_at) (av := [.ref p0, .int (6 : Int32), .int p1, .int (2 : Int32)]) (st := []) dX40_isWordRight_50 q4928 mX40_at) mX40_at.2.2.1 mX40_at.2.2.2.2.1 (Nat.le_of_ble_eq_true rfl) (Nat.le_of_ble_eq_true rfl) (fun q hq => pX40_at (by omega) hq) (fun q4 hf => ?_)
    refine w_istore dX40_isWordRight_53 (by decide) (ls' := [some (.ref p0), some (.int p1), some (.int q1.1), some (.int q3.1), some (.int q4.1), none, none]) rfl ?_
    refine w_aload_n dX40_isWordRight_55 rfl rfl ?_
    refine w_bipush dX40_isWordRight_56 (v := 6) (by decide) ?_
    refine w_iload_n dX40_isWordRight_58 rfl rfl ?_
    refine w_iconst dX40_isWordRight_59 (v := 3) (by decide) ?_
    refine x_cnI hf (e_stS (Yc := YX40_at) (av := [.ref p0, .int (6 : Int32), .int p1, .int (3 : Int32)]) (st := []) dX40_isWordRight_60 q4928 mX40_at) mX40_at.2.2.1 mX40_at.2.2.2.2.1 (Nat.le_of_ble_eq_true rfl) (Nat.le_of_ble_eq_true rfl) (fun q hq => pX40_at (by omega) hq) (fun q5 hf => ?_)
    refine w_istore dX40_isWordRight_63 (by decide) (ls' := [some (.ref p0), some (.int p1), some (.int q1.1), some (.int q3.1), some (.int q4.1), some (.int q5.1), none]) rfl ?_
    refine w_aload_n dX40_isWordRight_65 rfl rfl ?_
    refine w_iload_n dX40_isWordRight_66 rfl rfl ?_
    refine x_cnI hf (e_stS (Yc := YX40_isThere) (av := [.ref p0, .int q3.1]) (st := []) dX40_isWordRight_67 q4938 mX40_isThere) mX40_isThere.2.2.1 mX40_isThere.2.2.2.2.1 (Nat.le_of_ble_eq_true rfl) (Nat.le_of_ble_eq_true rfl) (fun q hq => pX40_isThere (by omega) hq) (fun q6 hf => ?_)
    refine w_if_ne 81 dX40_isWordRight_70 (by decide) (fun c7 => ?_) (fun c7 => ?_)
    · replace hf := (if_pos (show ¬ q6.1 = 0 from c7)).symm.trans hf
      exact (pX40_isWordRight_b81 hd hf).to ⟨rfl, rfl, rfl, rfl, rfl, trivial⟩
    · replace hf := (if_neg (show ¬ (¬ q6.1 = 0) from (fun z => z c7))).symm.trans hf
      refine w_iload_n dX40_isWordRight_73 rfl rfl ?_
      refine w_aload_n dX40_isWordRight_74 rfl rfl ?_
      refine x_cnI hf (e_stS (Yc := YX40_edgeOf) (av := [.ref p0]) (st := [.int q3.1]) dX40_isWordRight_75 q4965 mX40_edgeOf) mX40_edgeOf.2.2.1 mX40_edgeOf.2.2.2.2.1 (Nat.le_of_ble_eq_true rfl) (Nat.le_of_ble_eq_true rfl) (fun q hq => pX40_edgeOf (by omega) hq) (fun q8 hf => ?_)
      refine w_icmp_ne 85 dX40_isWordRight_78 (by decide) (fun c9 => ?_) (fun c9 => ?_)
      · replace hf := (if_pos (show ¬ q3.1 = q8.1 from c9)).symm.trans hf
        refine w_iconst dX40_isWordRight_85 (v := 0) (by decide) ?_
        exact (pX40_isWordRight_b86 hd hf).to ⟨rfl, rfl, rfl, rfl, rfl, trivial⟩
      · replace hf := (if_neg (show ¬ (¬ q3.1 = q8.1) from (fun z => z c9))).symm.trans hf
        exact (pX40_isWordRight_b81 hd hf).to ⟨rfl, rfl, rfl, rfl, rfl, trivial⟩
  · replace hf := (if_neg (show ¬ (q1.1 ≤ (128 : Int32)) from c2)).symm.trans hf
    refine w_aload_n dX40_isWordRight_16 rfl rfl ?_
    refine w_iload_n dX40_isWordRight_17 rfl rfl ?_
    refine x_cnI hf (e_stS (Yc := YX40_far) (av := [.ref p0, .int p1]) (st := []) dX40_isWordRight_18 q4962 mX40_far) mX40_far.2.2.1 mX40_far.2.2.2.2.1 (Nat.le_of_ble_eq_true rfl) (Nat.le_of_ble_eq_true rfl) (fun q hq => pX40_far (by omega) hq) (fun q10 hf => ?_)
    refine w_aload_n dX40_isWordRight_21 rfl rfl ?_
    refine w_bipush dX40_isWordRight_22 (v := 6) (by decide) ?_
    refine x_cnI hf (e_stS (Yc := YX40_words) (av := [.ref p0, .int (6 : Int32)]) (st := [.int q10.1]) dX40_isWordRight_24 q4919 mX40_words) mX40_words.2.2.1 mX40_words.2.2.2.2.1 (Nat.le_of_ble_eq_true rfl) (Nat.le_of_ble_eq_true rfl) (fun q hq => pX40_words (by omega) hq) (fun q11 hf => ?_)
    refine w_icmp_ge 34 dX40_isWordRight_27 (by decide) (fun c12 => ?_) (fun c12 => ?_)
    · replace hf := (if_pos (show q11.1 ≤ q10.1 from c12)).symm.trans hf
      refine w_iconst dX40_isWordRight_34 (v := 0) (by decide) ?_
      exact (pX40_isWordRight_b35 hd hf).to trivial
    · replace hf := (if_neg (show ¬ (q11.1 ≤ q10.1) from c12)).symm.trans hf
      refine w_iconst dX40_isWordRight_30 (v := 1) (by decide) ?_
      refine w_goto 35 dX40_isWordRight_31 (by decide) ?_
      exact (pX40_isWordRight_b35 hd hf).to trivial
abbrev cX40_isProgramRight : ByteArray := prog_41_method_19_code
def yX40_isProgramRight : MethodName := ⟨RX40, "isProgramRight", "([B)Z"⟩
def YX40_isProgramRight : eY := (yX40_isProgramRight, cX40_isProgramRight, 3, (Option.some FieldType.boolean), [])
theorem mX40_isProgramRight : e_ms YX40_isProgramRight 1 := ⟨q4957, q483, q4958, by decide, by decide +kernel, (e_sig (by decide +kernel))⟩
theorem dX40_isProgramRight_0 : decode cX40_isProgramRight 0 = .ok (.iconst 1, 1) := dc_4 (by decide +kernel)
theorem dX40_isProgramRight_1 : decode cX40_isProgramRight 1 = .ok (.istore_n 1, 1) := dc_60 (by decide +kernel)
theorem dX40_isProgramRight_2 : decode cX40_isProgramRight 2 = .ok (.iconst 0, 1) := dc_3 (by decide +kernel)
theorem dX40_isProgramRight_3 : decode cX40_isProgramRight 3 = .ok (.istore_n 2, 1) := dc_61 (by decide +kernel)
theorem dX40_isProgramRight_4 : decode cX40_isProgramRight 4 = .ok (.iload_n 2, 1) := dc_28 (by decide +kernel)
theorem dX40_isProgramRight_5 : decode cX40_isProgramRight 5 = .ok (.aload_n 0, 1) := dc_42 (by decide +kernel)
theorem dX40_isProgramRight_6 : decode cX40_isProgramRight 6 = .ok (.bipush 6, 2) := dc_16 (a := 6) (v := 6) (by decide +kernel)
theorem dX40_isProgramRight_8 : decode cX40_isProgramRight 8 = .ok (.invokestatic 26, 3) := dc_184 (a := 0) (b := 26) (n := 26) (by decide +kernel)
theorem dX40_isProgramRight_11 : decode cX40_isProgramRight 11 = .ok (.if_icmp .ge 27, 3) := dc_162 (a := 0) (b := 27) (v := 27) (by decide +kernel)
theorem dX40_isProgramRight_14 : decode cX40_isProgramRight 14 = .ok (.iload_n 1, 1) := dc_27 (by decide +kernel)
theorem dX40_isProgramRight_15 : decode cX40_isProgramRight 15 = .ok (.ifCond .eq 15, 3) := dc_153 (a := 0) (b := 15) (v := 15) (by decide +kernel)
theorem dX40_isProgramRight_18 : decode cX40_isProgramRight 18 = .ok (.aload_n 0, 1) := dc_42 (by decide +kernel)
theorem dX40_isProgramRight_19 : decode cX40_isProgramRight 19 = .ok (.iload_n 2, 1) := dc_28 (by decide +kernel)
theorem dX40_isProgramRight_20 : decode cX40_isProgramRight 20 = .ok (.invokestatic 60, 3) := dc_184 (a := 0) (b := 60) (n := 60) (by decide +kernel)
theorem dX40_isProgramRight_23 : decode cX40_isProgramRight 23 = .ok (.ifCond .eq 7, 3) := dc_153 (a := 0) (b := 7) (v := 7) (by decide +kernel)
theorem dX40_isProgramRight_26 : decode cX40_isProgramRight 26 = .ok (.iconst 1, 1) := dc_4 (by decide +kernel)
theorem dX40_isProgramRight_27 : decode cX40_isProgramRight 27 = .ok (.goto 4, 3) := dc_167 (a := 0) (b := 4) (v := 4) (by decide +kernel)
theorem dX40_isProgramRight_30 : decode cX40_isProgramRight 30 = .ok (.iconst 0, 1) := dc_3 (by decide +kernel)
theorem dX40_isProgramRight_31 : decode cX40_isProgramRight 31 = .ok (.istore_n 1, 1) := dc_60 (by decide +kernel)
theorem dX40_isProgramRight_32 : decode cX40_isProgramRight 32 = .ok (.iinc 2 1, 3) := dc_132 (a := 2) (b := 1) (v := 1) (by decide +kernel)
theorem dX40_isProgramRight_35 : decode cX40_isProgramRight 35 = .ok (.goto (-31), 3) := dc_167 (a := 255) (b := 225) (v := -31) (by decide +kernel)
theorem dX40_isProgramRight_38 : decode cX40_isProgramRight 38 = .ok (.iload_n 1, 1) := dc_27 (by decide +kernel)
theorem dX40_isProgramRight_39 : decode cX40_isProgramRight 39 = .ok (.ireturn, 1) := dc_172 (by decide +kernel)
def fX40_isProgramRight_b31 (N : Nat) (k4 : Nat → Int32 → Int32 → eH → Option (Int32 × eH)) (l0 : Nat) (l2 : Int32) (s0 : Int32) (h : eH) : Option (Int32 × eH) :=
  k4 l0 s0 (l2 + (1 : Int32)) h
theorem pX40_isProgramRight_b31 {w : eW} {d : Nat} (hd : 6 ≤ d + 1) {N : Nat} {k4 : Nat → Int32 → Int32 → eH → Option (Int32 × eH)} (hk4 : ∀ l0 l1 l2 h q, k4 l0 l1 l2 h = some q → wp w (d + 1) YX40_isProgramRight 4 [some (.ref l0), some (.int l1), some (.int l2)] [] h (e_is (e_rn c_I q))) {l0 : Nat} {l2 : Int32} {s0 : Int32} {h : eH} {q} (hf : fX40_isProgramRight_b31 N k4 l0 l2 s0 h = some q) : wp w (d + 1) YX40_isProgramRight 31 [some (.ref l0), none, some (.int l2)] [.int s0] h (e_is (e_rn c_I q)) := by
  unfold fX40_isProgramRight_b31 at hf
  refine w_istore_n dX40_isProgramRight_31 rfl (by decide) (ls' := [some (.ref l0), some (.int s0), some (.int l2)]) rfl ?_
  refine w_iinc dX40_isProgramRight_32 (v := (l2 + (1 : Int32))) rfl rfl (by decide) (ls' := [some (.ref l0), some (.int s0), some (.int (l2 + (1 : Int32)))]) rfl ?_
  refine w_goto 4 dX40_isProgramRight_35 (by decide) ?_
  exact (hk4 _ _ _ _ _ hf).to ⟨rfl, rfl, rfl, trivial⟩
def fX40_isProgramRight_b30 (N : Nat) (k4 : Nat → Int32 → Int32 → eH → Option (Int32 × eH)) (l0 : Nat) (l2 : Int32) (h : eH) : Option (Int32 × eH) :=
  fX40_isProgramRight_b31 N k4 l0 l2 (0 : Int32) h
theorem pX40_isProgramRight_b30 {w : eW} {d : Nat} (hd : 6 ≤ d + 1) {N : Nat} {k4 : Nat → Int32 → Int32 → eH → Option (Int32 × eH)} (hk4 : ∀ l0 l1 l2 h q, k4 l0 l1 l2 h = some q → wp w (d + 1) YX40_isProgramRight 4 [some (.ref l0), some (.int l1), some (.int l2)] [] h (e_is (e_rn c_I q))) {l0 : Nat} {l2 : Int32} {h : eH} {q} (hf : fX40_isProgramRight_b30 N k4 l0 l2 h = some q) : wp w (d + 1) YX40_isProgramRight 30 [some (.ref l0), none, some (.int l2)] [] h (e_is (e_rn c_I q)) := by
  unfold fX40_isProgramRight_b30 at hf
  refine w_iconst dX40_isProgramRight_30 (v := 0) (by decide) ?_
  exact (pX40_isProgramRight_b31 hd hk4 hf).to ⟨rfl, rfl, trivial⟩
def fX40_isProgramRight_b4 (N : Nat) : Nat → Nat → Int32 → Int32 → eH → Option (Int32 × eH)
  | 0, _, _, _, _ => none
  | n + 1, l0, l1, l2, h =>
    (fX40_words l0 (6 : Int32) h).bind fun q1 =>
    if q1.1 ≤ l2 then
      z_r l1 (l1, q1.2)
    else
      if l1 = 0 then
        fX40_isProgramRight_b30 N (fX40_isProgramRight_b4 N n) l0 l2 q1.2
      else
        (fX40_isWordRight N l0 l2 q1.2).bind fun q5 =>
        if q5.1 = 0 then
          fX40_isProgramRight_b30 N (fX40_isProgramRight_b4 N n) l0 l2 q5.2
        else
          fX40_isProgramRight_b31 N (fX40_isProgramRight_b4 N n) l0 l2 (1 : Int32) q5.2
theorem pX40_isProgramRight_b4 {w : eW} {d : Nat} (hd : 6 ≤ d + 1) {N : Nat} : ∀ (n : Nat) l0 l1 l2 h q, fX40_isProgramRight_b4 N n l0 l1 l2 h = some q → wp w (d + 1) YX40_isProgramRight 4 [some (.ref l0), some (.int l1), some (.int l2)] [] h (e_is (e_rn c_I q)) := by
  intro n
  induction n with
  | zero => intro l0 l1 l2 h q hf; simp [fX40_isProgramRight_b4] at hf
  | succ n ih =>
    intro l0 l1 l2 h q hf
    rw [fX40_isProgramRight_b4] at hf
    refine w_iload_n dX40_isProgramRight_4 rfl rfl ?_
    refine w_aload_n dX40_isProgramRight_5 rfl rfl ?_
    refine w_bipush dX40_isProgramRight_6 (v := 6) (by decide) ?_
    refine x_cnI hf (e_stS (Yc := YX40_words) (av := [.ref l0, .int (6 : Int32)]) (st := [.int l2]) dX40_isProgramRight_8 q4919 mX40_words) mX40_words.2.2.1 mX40_words.2.2.2.2.1 (Nat.le_of_ble_eq_true rfl) (Nat.le_of_ble_eq_true rfl) (fun q hq => pX40_words (by omega) hq) (fun q1 hf => ?_)
    refine w_icmp_ge 38 dX40_isProgramRight_11 (by decide) (fun c2 => ?_) (fun c2 => ?_)
    · replace hf := (if_pos (show q1.1 ≤ l2 from c2)).symm.trans hf
      refine w_iload_n dX40_isProgramRight_38 rfl rfl ?_
      obtain ⟨b3, rfl⟩ := z_r_some hf
      exact w_iret dX40_isProgramRight_39 rfl b3 rfl
    · replace hf := (if_neg (show ¬ (q1.1 ≤ l2) from c2)).symm.trans hf
      refine w_iload_n dX40_isProgramRight_14 rfl rfl ?_
      refine w_if_eq 30 dX40_isProgramRight_15 (by decide) (fun c4 => ?_) (fun c4 => ?_)
      · replace hf := (if_pos (show l1 = 0 from c4)).symm.trans hf
        exact (pX40_isProgramRight_b30 hd ih hf).to ⟨rfl, rfl, trivial⟩
      · replace hf := (if_neg (show ¬ (l1 = 0) from c4)).symm.trans hf
        refine w_aload_n dX40_isProgramRight_18 rfl rfl ?_
        refine w_iload_n dX40_isProgramRight_19 rfl rfl ?_
        refine x_cnI hf (e_stS (Yc := YX40_isWordRight) (av := [.ref l0, .int l2]) (st := []) dX40_isProgramRight_20 q4959 mX40_isWordRight) mX40_isWordRight.2.2.1 mX40_isWordRight.2.2.2.2.1 (Nat.le_of_ble_eq_true rfl) (Nat.le_of_ble_eq_true rfl) (fun q hq => pX40_isWordRight (by omega) hq) (fun q5 hf => ?_)
        refine w_if_eq 30 dX40_isProgramRight_23 (by decide) (fun c6 => ?_) (fun c6 => ?_)
        · replace hf := (if_pos (show q5.1 = 0 from c6)).symm.trans hf
          exact (pX40_isProgramRight_b30 hd ih hf).to ⟨rfl, rfl, trivial⟩
        · replace hf := (if_neg (show ¬ (q5.1 = 0) from c6)).symm.trans hf
          refine w_iconst dX40_isProgramRight_26 (v := 1) (by decide) ?_
          refine w_goto 31 dX40_isProgramRight_27 (by decide) ?_
          exact (pX40_isProgramRight_b31 hd ih hf).to ⟨rfl, rfl, trivial⟩
def fX40_isProgramRight (N : Nat) (p0 : Nat) (h : eH) : Option (Int32 × eH) :=
  fX40_isProgramRight_b4 N N p0 (1 : Int32) (0 : Int32) h
theorem pX40_isProgramRight {w : eW} {d : Nat} (hd : 6 ≤ d) {N : Nat} {p0 : Nat} {h : eH} {q} (hf : fX40_isProgramRight N p0 h = some q) : wm w d YX40_isProgramRight [.ref p0] h (e_is (e_rn c_I q)) := by
  obtain ⟨d, rfl⟩ : ∃ e, d = e + 1 := ⟨d - 1, by omega⟩
  show wp w (d + 1) YX40_isProgramRight 0 [some (.ref p0), none, none] [] h _
  unfold fX40_isProgramRight at hf
  refine w_iconst dX40_isProgramRight_0 (v := 1) (by decide) ?_
  refine w_istore_n dX40_isProgramRight_1 rfl (by decide) (ls' := [some (.ref p0), some (.int (1 : Int32)), none]) rfl ?_
  refine w_iconst dX40_isProgramRight_2 (v := 0) (by decide) ?_
  refine w_istore_n dX40_isProgramRight_3 rfl (by decide) (ls' := [some (.ref p0), some (.int (1 : Int32)), some (.int (0 : Int32))]) rfl ?_
  exact (pX40_isProgramRight_b4 hd N _ _ _ _ _ hf).to ⟨rfl, rfl, rfl, trivial⟩
abbrev cX40_areRecipesRight : ByteArray := prog_41_method_20_code
def yX40_areRecipesRight : MethodName := ⟨RX40, "areRecipesRight", "([B)Z"⟩
def YX40_areRecipesRight : eY := (yX40_areRecipesRight, cX40_areRecipesRight, 4, (Option.some FieldType.boolean), [])
theorem mX40_areRecipesRight : e_ms YX40_areRecipesRight 1 := ⟨q4969, q483, q4970, by decide, by decide +kernel, (e_sig (by decide +kernel))⟩
theorem dX40_areRecipesRight_0 : decode cX40_areRecipesRight 0 = .ok (.iconst 1, 1) := dc_4 (by decide +kernel)
theorem dX40_areRecipesRight_1 : decode cX40_areRecipesRight 1 = .ok (.istore_n 1, 1) := dc_60 (by decide +kernel)
theorem dX40_areRecipesRight_2 : decode cX40_areRecipesRight 2 = .ok (.iconst 0, 1) := dc_3 (by decide +kernel)
theorem dX40_areRecipesRight_3 : decode cX40_areRecipesRight 3 = .ok (.istore_n 2, 1) := dc_61 (by decide +kernel)
theorem dX40_areRecipesRight_4 : decode cX40_areRecipesRight 4 = .ok (.iload_n 2, 1) := dc_28 (by decide +kernel)
theorem dX40_areRecipesRight_5 : decode cX40_areRecipesRight 5 = .ok (.aload_n 0, 1) := dc_42 (by decide +kernel)
theorem dX40_areRecipesRight_6 : decode cX40_areRecipesRight 6 = .ok (.bipush 8, 2) := dc_16 (a := 8) (v := 8) (by decide +kernel)
theorem dX40_areRecipesRight_8 : decode cX40_areRecipesRight 8 = .ok (.invokestatic 26, 3) := dc_184 (a := 0) (b := 26) (n := 26) (by decide +kernel)
theorem dX40_areRecipesRight_11 : decode cX40_areRecipesRight 11 = .ok (.if_icmp .ge 83, 3) := dc_162 (a := 0) (b := 83) (v := 83) (by decide +kernel)
theorem dX40_areRecipesRight_14 : decode cX40_areRecipesRight 14 = .ok (.iload_n 1, 1) := dc_27 (by decide +kernel)
theorem dX40_areRecipesRight_15 : decode cX40_areRecipesRight 15 = .ok (.ifCond .eq 22, 3) := dc_153 (a := 0) (b := 22) (v := 22) (by decide +kernel)
theorem dX40_areRecipesRight_18 : decode cX40_areRecipesRight 18 = .ok (.aload_n 0, 1) := dc_42 (by decide +kernel)
theorem dX40_areRecipesRight_19 : decode cX40_areRecipesRight 19 = .ok (.aload_n 0, 1) := dc_42 (by decide +kernel)
theorem dX40_areRecipesRight_20 : decode cX40_areRecipesRight 20 = .ok (.bipush 8, 2) := dc_16 (a := 8) (v := 8) (by decide +kernel)
theorem dX40_areRecipesRight_22 : decode cX40_areRecipesRight 22 = .ok (.iload_n 2, 1) := dc_28 (by decide +kernel)
theorem dX40_areRecipesRight_23 : decode cX40_areRecipesRight 23 = .ok (.iconst 3, 1) := dc_6 (by decide +kernel)
theorem dX40_areRecipesRight_24 : decode cX40_areRecipesRight 24 = .ok (.invokestatic 32, 3) := dc_184 (a := 0) (b := 32) (n := 32) (by decide +kernel)
theorem dX40_areRecipesRight_27 : decode cX40_areRecipesRight 27 = .ok (.invokestatic 42, 3) := dc_184 (a := 0) (b := 42) (n := 42) (by decide +kernel)
theorem dX40_areRecipesRight_30 : decode cX40_areRecipesRight 30 = .ok (.ifCond .eq 7, 3) := dc_153 (a := 0) (b := 7) (v := 7) (by decide +kernel)
theorem dX40_areRecipesRight_33 : decode cX40_areRecipesRight 33 = .ok (.iconst 1, 1) := dc_4 (by decide +kernel)
theorem dX40_areRecipesRight_34 : decode cX40_areRecipesRight 34 = .ok (.goto 4, 3) := dc_167 (a := 0) (b := 4) (v := 4) (by decide +kernel)
theorem dX40_areRecipesRight_37 : decode cX40_areRecipesRight 37 = .ok (.iconst 0, 1) := dc_3 (by decide +kernel)
theorem dX40_areRecipesRight_38 : decode cX40_areRecipesRight 38 = .ok (.istore_n 1, 1) := dc_60 (by decide +kernel)
theorem dX40_areRecipesRight_39 : decode cX40_areRecipesRight 39 = .ok (.iconst 0, 1) := dc_3 (by decide +kernel)
theorem dX40_areRecipesRight_40 : decode cX40_areRecipesRight 40 = .ok (.istore_n 3, 1) := dc_62 (by decide +kernel)
theorem dX40_areRecipesRight_41 : decode cX40_areRecipesRight 41 = .ok (.iload_n 3, 1) := dc_29 (by decide +kernel)
theorem dX40_areRecipesRight_42 : decode cX40_areRecipesRight 42 = .ok (.iconst 3, 1) := dc_6 (by decide +kernel)
theorem dX40_areRecipesRight_43 : decode cX40_areRecipesRight 43 = .ok (.if_icmp .ge 45, 3) := dc_162 (a := 0) (b := 45) (v := 45) (by decide +kernel)
theorem dX40_areRecipesRight_46 : decode cX40_areRecipesRight 46 = .ok (.iload_n 1, 1) := dc_27 (by decide +kernel)
theorem dX40_areRecipesRight_47 : decode cX40_areRecipesRight 47 = .ok (.ifCond .eq 33, 3) := dc_153 (a := 0) (b := 33) (v := 33) (by decide +kernel)
theorem dX40_areRecipesRight_50 : decode cX40_areRecipesRight 50 = .ok (.aload_n 0, 1) := dc_42 (by decide +kernel)
theorem dX40_areRecipesRight_51 : decode cX40_areRecipesRight 51 = .ok (.bipush 8, 2) := dc_16 (a := 8) (v := 8) (by decide +kernel)
theorem dX40_areRecipesRight_53 : decode cX40_areRecipesRight 53 = .ok (.iload_n 2, 1) := dc_28 (by decide +kernel)
theorem dX40_areRecipesRight_54 : decode cX40_areRecipesRight 54 = .ok (.iload_n 3, 1) := dc_29 (by decide +kernel)
theorem dX40_areRecipesRight_55 : decode cX40_areRecipesRight 55 = .ok (.invokestatic 32, 3) := dc_184 (a := 0) (b := 32) (n := 32) (by decide +kernel)
theorem dX40_areRecipesRight_58 : decode cX40_areRecipesRight 58 = .ok (.ifCond .eq 18, 3) := dc_153 (a := 0) (b := 18) (v := 18) (by decide +kernel)
theorem dX40_areRecipesRight_61 : decode cX40_areRecipesRight 61 = .ok (.aload_n 0, 1) := dc_42 (by decide +kernel)
theorem dX40_areRecipesRight_62 : decode cX40_areRecipesRight 62 = .ok (.aload_n 0, 1) := dc_42 (by decide +kernel)
theorem dX40_areRecipesRight_63 : decode cX40_areRecipesRight 63 = .ok (.bipush 8, 2) := dc_16 (a := 8) (v := 8) (by decide +kernel)
theorem dX40_areRecipesRight_65 : decode cX40_areRecipesRight 65 = .ok (.iload_n 2, 1) := dc_28 (by decide +kernel)
theorem dX40_areRecipesRight_66 : decode cX40_areRecipesRight 66 = .ok (.iload_n 3, 1) := dc_29 (by decide +kernel)
theorem dX40_areRecipesRight_67 : decode cX40_areRecipesRight 67 = .ok (.invokestatic 32, 3) := dc_184 (a := 0) (b := 32) (n := 32) (by decide +kernel)
theorem dX40_areRecipesRight_70 : decode cX40_areRecipesRight 70 = .ok (.invokestatic 42, 3) := dc_184 (a := 0) (b := 42) (n := 42) (by decide +kernel)
theorem dX40_areRecipesRight_73 : decode cX40_areRecipesRight 73 = .ok (.ifCond .eq 7, 3) := dc_153 (a := 0) (b := 7) (v := 7) (by decide +kernel)
theorem dX40_areRecipesRight_76 : decode cX40_areRecipesRight 76 = .ok (.iconst 1, 1) := dc_4 (by decide +kernel)
theorem dX40_areRecipesRight_77 : decode cX40_areRecipesRight 77 = .ok (.goto 4, 3) := dc_167 (a := 0) (b := 4) (v := 4) (by decide +kernel)
theorem dX40_areRecipesRight_80 : decode cX40_areRecipesRight 80 = .ok (.iconst 0, 1) := dc_3 (by decide +kernel)
theorem dX40_areRecipesRight_81 : decode cX40_areRecipesRight 81 = .ok (.istore_n 1, 1) := dc_60 (by decide +kernel)
theorem dX40_areRecipesRight_82 : decode cX40_areRecipesRight 82 = .ok (.iinc 3 1, 3) := dc_132 (a := 3) (b := 1) (v := 1) (by decide +kernel)
theorem dX40_areRecipesRight_85 : decode cX40_areRecipesRight 85 = .ok (.goto (-44), 3) := dc_167 (a := 255) (b := 212) (v := -44) (by decide +kernel)
theorem dX40_areRecipesRight_88 : decode cX40_areRecipesRight 88 = .ok (.iinc 2 1, 3) := dc_132 (a := 2) (b := 1) (v := 1) (by decide +kernel)
theorem dX40_areRecipesRight_91 : decode cX40_areRecipesRight 91 = .ok (.goto (-87), 3) := dc_167 (a := 255) (b := 169) (v := -87) (by decide +kernel)
theorem dX40_areRecipesRight_94 : decode cX40_areRecipesRight 94 = .ok (.iload_n 1, 1) := dc_27 (by decide +kernel)
theorem dX40_areRecipesRight_95 : decode cX40_areRecipesRight 95 = .ok (.ireturn, 1) := dc_172 (by decide +kernel)
def fX40_areRecipesRight_b81 (N : Nat) (k41 : Nat → Int32 → Int32 → Int32 → eH → Option (Int32 × eH)) (l0 : Nat) (l2 : Int32) (l3 : Int32) (s0 : Int32) (h : eH) : Option (Int32 × eH) :=
  k41 l0 s0 l2 (l3 + (1 : Int32)) h
theorem pX40_areRecipesRight_b81 {w : eW} {d : Nat} (hd : 5 ≤ d + 1) {N : Nat} {k41 : Nat → Int32 → Int32 → Int32 → eH → Option (Int32 × eH)} (hk41 : ∀ l0 l1 l2 l3 h q, k41 l0 l1 l2 l3 h = some q → wp w (d + 1) YX40_areRecipesRight 41 [some (.ref l0), some (.int l1), some (.int l2), some (.int l3)] [] h (e_is (e_rn c_I q))) {l0 : Nat} {l2 : Int32} {l3 : Int32} {s0 : Int32} {h : eH} {q} (hf : fX40_areRecipesRight_b81 N k41 l0 l2 l3 s0 h = some q) : wp w (d + 1) YX40_areRecipesRight 81 [some (.ref l0), none, some (.int l2), some (.int l3)] [.int s0] h (e_is (e_rn c_I q)) := by
  unfold fX40_areRecipesRight_b81 at hf
  refine w_istore_n dX40_areRecipesRight_81 rfl (by decide) (ls' := [some (.ref l0), some (.int s0), some (.int l2), some (.int l3)]) rfl ?_
  refine w_iinc dX40_areRecipesRight_82 (v := (l3 + (1 : Int32))) rfl rfl (by decide) (ls' := [some (.ref l0), some (.int s0), some (.int l2), some (.int (l3 + (1 : Int32)))]) rfl ?_
  refine w_goto 41 dX40_areRecipesRight_85 (by decide) ?_
  exact (hk41 _ _ _ _ _ _ hf).to ⟨rfl, rfl, rfl, rfl, trivial⟩
def fX40_areRecipesRight_b76 (N : Nat) (k41 : Nat → Int32 → Int32 → Int32 → eH → Option (Int32 × eH)) (l0 : Nat) (l2 : Int32) (l3 : Int32) (h : eH) : Option (Int32 × eH) :=
  fX40_areRecipesRight_b81 N k41 l0 l2 l3 (1 : Int32) h
theorem pX40_areRecipesRight_b76 {w : eW} {d : Nat} (hd : 5 ≤ d + 1) {N : Nat} {k41 : Nat → Int32 → Int32 → Int32 → eH → Option (Int32 × eH)} (hk41 : ∀ l0 l1 l2 l3 h q, k41 l0 l1 l2 l3 h = some q → wp w (d + 1) YX40_areRecipesRight 41 [some (.ref l0), some (.int l1), some (.int l2), some (.int l3)] [] h (e_is (e_rn c_I q))) {l0 : Nat} {l2 : Int32} {l3 : Int32} {h : eH} {q} (hf : fX40_areRecipesRight_b76 N k41 l0 l2 l3 h = some q) : wp w (d + 1) YX40_areRecipesRight 76 [some (.ref l0), none, some (.int l2), some (.int l3)] [] h (e_is (e_rn c_I q)) := by
  unfold fX40_areRecipesRight_b76 at hf
  refine w_iconst dX40_areRecipesRight_76 (v := 1) (by decide) ?_
  refine w_goto 81 dX40_areRecipesRight_77 (by decide) ?_
  exact (pX40_areRecipesRight_b81 hd hk41 hf).to ⟨rfl, rfl, rfl, trivial⟩
def fX40_areRecipesRight_b80 (N : Nat) (k41 : Nat → Int32 → Int32 → Int32 → eH → Option (Int32 × eH)) (l0 : Nat) (l2 : Int32) (l3 : Int32) (h : eH) : Option (Int32 × eH) :=
  fX40_areRecipesRight_b81 N k41 l0 l2 l3 (0 : Int32) h
theorem pX40_areRecipesRight_b80 {w : eW} {d : Nat} (hd : 5 ≤ d + 1) {N : Nat} {k41 : Nat → Int32 → Int32 → Int32 → eH → Option (Int32 × eH)} (hk41 : ∀ l0 l1 l2 l3 h q, k41 l0 l1 l2 l3 h = some q → wp w (d + 1) YX40_areRecipesRight 41 [some (.ref l0), some (.int l1), some (.int l2), some (.int l3)] [] h (e_is (e_rn c_I q))) {l0 : Nat} {l2 : Int32} {l3 : Int32} {h : eH} {q} (hf : fX40_areRecipesRight_b80 N k41 l0 l2 l3 h = some q) : wp w (d + 1) YX40_areRecipesRight 80 [some (.ref l0), none, some (.int l2), some (.int l3)] [] h (e_is (e_rn c_I q)) := by
  unfold fX40_areRecipesRight_b80 at hf
  refine w_iconst dX40_areRecipesRight_80 (v := 0) (by decide) ?_
  exact (pX40_areRecipesRight_b81 hd hk41 hf).to ⟨rfl, rfl, rfl, trivial⟩
def fX40_areRecipesRight_b41 (N : Nat) (k4 : Nat → Int32 → Int32 → eH → Option (Int32 × eH)) : Nat → Nat → Int32 → Int32 → Int32 → eH → Option (Int32 × eH)
  | 0, _, _, _, _, _ => none
  | n + 1, l0, l1, l2, l3, h =>
    if (3 : Int32) ≤ l3 then
      k4 l0 l1 (l2 + (1 : Int32)) h
    else
      if l1 = 0 then
        fX40_areRecipesRight_b80 N (fX40_areRecipesRight_b41 N k4 n) l0 l2 l3 h
      else
        (fX40_at N l0 (8 : Int32) l2 l3 h).bind fun q3 =>
        if q3.1 = 0 then
          fX40_areRecipesRight_b76 N (fX40_areRecipesRight_b41 N k4 n) l0 l2 l3 q3.2
        else
          (fX40_at N l0 (8 : Int32) l2 l3 q3.2).bind fun q5 =>
          (fX40_isThere N l0 q5.1 q5.2).bind fun q6 =>
          if q6.1 = 0 then
            fX40_areRecipesRight_b80 N (fX40_areRecipesRight_b41 N k4 n) l0 l2 l3 q6.2
          else
            fX40_areRecipesRight_b76 N (fX40_areRecipesRight_b41 N k4 n) l0 l2 l3 q6.2
theorem pX40_areRecipesRight_b41 {w : eW} {d : Nat} (hd : 5 ≤ d + 1) {N : Nat} {k4 : Nat → Int32 → Int32 → eH → Option (Int32 × eH)} (hk4 : ∀ l0 l1 l2 h q, k4 l0 l1 l2 h = some q → wp w (d + 1) YX40_areRecipesRight 4 [some (.ref l0), some (.int l1), some (.int l2), none] [] h (e_is (e_rn c_I q))) : ∀ (n : Nat) l0 l1 l2 l3 h q, fX40_areRecipesRight_b41 N k4 n l0 l1 l2 l3 h = some q → wp w (d + 1) YX40_areRecipesRight 41 [some (.ref l0), some (.int l1), some (.int l2), some (.int l3)] [] h (e_is (e_rn c_I q)) := by
  intro n
  induction n with
  | zero => intro l0 l1 l2 l3 h q hf; simp [fX40_areRecipesRight_b41] at hf
  | succ n ih =>
    intro l0 l1 l2 l3 h q hf
    rw [fX40_areRecipesRight_b41] at hf
    refine w_iload_n dX40_areRecipesRight_41 rfl rfl ?_
    refine w_iconst dX40_areRecipesRight_42 (v := 3) (by decide) ?_
    refine w_icmp_ge 88 dX40_areRecipesRight_43 (by decide) (fun c1 => ?_) (fun c1 => ?_)
    · replace hf := (if_pos (show (3 : Int32) ≤ l3 from c1)).symm.trans hf
      refine w_iinc dX40_areRecipesRight_88 (v := (l2 + (1 : Int32))) rfl rfl (by decide) (ls' := [some (.ref l0), some (.int l1), some (.int (l2 + (1 : Int32))), some (.int l3)]) rfl ?_
      refine w_goto 4 dX40_areRecipesRight_91 (by decide) ?_
      exact (hk4 _ _ _ _ _ hf).to ⟨rfl, rfl, rfl, trivial⟩
    · replace hf := (if_neg (show ¬ ((3 : Int32) ≤ l3) from c1)).symm.trans hf
      refine w_iload_n dX40_areRecipesRight_46 rfl rfl ?_
      refine w_if_eq 80 dX40_areRecipesRight_47 (by decide) (fun c2 => ?_) (fun c2 => ?_)
      · replace hf := (if_pos (show l1 = 0 from c2)).symm.trans hf
        exact (pX40_areRecipesRight_b80 hd ih hf).to ⟨rfl, rfl, rfl, trivial⟩
      · replace hf := (if_neg (show ¬ (l1 = 0) from c2)).symm.trans hf
        refine w_aload_n dX40_areRecipesRight_50 rfl rfl ?_
        refine w_bipush dX40_areRecipesRight_51 (v := 8) (by decide) ?_
        refine w_iload_n dX40_areRecipesRight_53 rfl rfl ?_
        refine w_iload_n dX40_areRecipesRight_54 rfl rfl ?_
        refine x_cnI hf (e_stS (Yc := YX40_at) (av := [.ref l0, .int (8 : Int32), .int l2, .int l3]) (st := []) dX40_areRecipesRight_55 q4928 mX40_at) mX40_at.2.2.1 mX40_at.2.2.2.2.1 (Nat.le_of_ble_eq_true rfl) (Nat.le_of_ble_eq_true rfl) (fun q hq => pX40_at (by omega) hq) (fun q3 hf => ?_)
        refine w_if_eq 76 dX40_areRecipesRight_58 (by decide) (fun c4 => ?_) (fun c4 => ?_)
        · replace hf := (if_pos (show q3.1 = 0 from c4)).symm.trans hf
          exact (pX40_areRecipesRight_b76 hd ih hf).to ⟨rfl, rfl, rfl, trivial⟩
        · replace hf := (if_neg (show ¬ (q3.1 = 0) from c4)).symm.trans hf
          refine w_aload_n dX40_areRecipesRight_61 rfl rfl ?_
          refine w_aload_n dX40_areRecipesRight_62 rfl rfl ?_
          refine w_bipush dX40_areRecipesRight_63 (v := 8) (by decide) ?_
          refine w_iload_n dX40_areRecipesRight_65 rfl rfl ?_
          refine w_iload_n dX40_areRecipesRight_66 rfl rfl ?_
          refine x_cnI hf (e_stS (Yc := YX40_at) (av := [.ref l0, .int (8 : Int32), .int l2, .int l3]) (st := [.ref l0]) dX40_areRecipesRight_67 q4928 mX40_at) mX40_at.2.2.1 mX40_at.2.2.2.2.1 (Nat.le_of_ble_eq_true rfl) (Nat.le_of_ble_eq_true rfl) (fun q hq => pX40_at (by omega) hq) (fun q5 hf => ?_)
          refine x_cnI hf (e_stS (Yc := YX40_isThere) (av := [.ref l0, .int q5.1]) (st := []) dX40_areRecipesRight_70 q4938 mX40_isThere) mX40_isThere.2.2.1 mX40_isThere.2.2.2.2.1 (Nat.le_of_ble_eq_true rfl) (Nat.le_of_ble_eq_true rfl) (fun q hq => pX40_isThere (by omega) hq) (fun q6 hf => ?_)
          refine w_if_eq 80 dX40_areRecipesRight_73 (by decide) (fun c7 => ?_) (fun c7 => ?_)
          · replace hf := (if_pos (show q6.1 = 0 from c7)).symm.trans hf
            exact (pX40_areRecipesRight_b80 hd ih hf).to ⟨rfl, rfl, rfl, trivial⟩
          · replace hf := (if_neg (show ¬ (q6.1 = 0) from c7)).symm.trans hf
            exact (pX40_areRecipesRight_b76 hd ih hf).to ⟨rfl, rfl, rfl, trivial⟩
def fX40_areRecipesRight_b38 (N : Nat) (k4 : Nat → Int32 → Int32 → eH → Option (Int32 × eH)) (l0 : Nat) (l2 : Int32) (s0 : Int32) (h : eH) : Option (Int32 × eH) :=
  fX40_areRecipesRight_b41 N k4 N l0 s0 l2 (0 : Int32) h
theorem pX40_areRecipesRight_b38 {w : eW} {d : Nat} (hd : 5 ≤ d + 1) {N : Nat} {k4 : Nat → Int32 → Int32 → eH → Option (Int32 × eH)} (hk4 : ∀ l0 l1 l2 h q, k4 l0 l1 l2 h = some q → wp w (d + 1) YX40_areRecipesRight 4 [some (.ref l0), some (.int l1), some (.int l2), none] [] h (e_is (e_rn c_I q))) {l0 : Nat} {l2 : Int32} {s0 : Int32} {h : eH} {q} (hf : fX40_areRecipesRight_b38 N k4 l0 l2 s0 h = some q) : wp w (d + 1) YX40_areRecipesRight 38 [some (.ref l0), none, some (.int l2), none] [.int s0] h (e_is (e_rn c_I q)) := by
  unfold fX40_areRecipesRight_b38 at hf
  refine w_istore_n dX40_areRecipesRight_38 rfl (by decide) (ls' := [some (.ref l0), some (.int s0), some (.int l2), none]) rfl ?_
  refine w_iconst dX40_areRecipesRight_39 (v := 0) (by decide) ?_
  refine w_istore_n dX40_areRecipesRight_40 rfl (by decide) (ls' := [some (.ref l0), some (.int s0), some (.int l2), some (.int (0 : Int32))]) rfl ?_
  exact (pX40_areRecipesRight_b41 hd hk4 N _ _ _ _ _ _ hf).to ⟨rfl, rfl, rfl, rfl, trivial⟩
def fX40_areRecipesRight_b37 (N : Nat) (k4 : Nat → Int32 → Int32 → eH → Option (Int32 × eH)) (l0 : Nat) (l2 : Int32) (h : eH) : Option (Int32 × eH) :=
  fX40_areRecipesRight_b38 N k4 l0 l2 (0 : Int32) h
theorem pX40_areRecipesRight_b37 {w : eW} {d : Nat} (hd : 5 ≤ d + 1) {N : Nat} {k4 : Nat → Int32 → Int32 → eH → Option (Int32 × eH)} (hk4 : ∀ l0 l1 l2 h q, k4 l0 l1 l2 h = some q → wp w (d + 1) YX40_areRecipesRight 4 [some (.ref l0), some (.int l1), some (.int l2), none] [] h (e_is (e_rn c_I q))) {l0 : Nat} {l2 : Int32} {h : eH} {q} (hf : fX40_areRecipesRight_b37 N k4 l0 l2 h = some q) : wp w (d + 1) YX40_areRecipesRight 37 [some (.ref l0), none, some (.int l2), none] [] h (e_is (e_rn c_I q)) := by
  unfold fX40_areRecipesRight_b37 at hf
  refine w_iconst dX40_areRecipesRight_37 (v := 0) (by decide) ?_
  exact (pX40_areRecipesRight_b38 hd hk4 hf).to ⟨rfl, rfl, trivial⟩
def fX40_areRecipesRight_b4 (N : Nat) : Nat → Nat → Int32 → Int32 → eH → Option (Int32 × eH)
  | 0, _, _, _, _ => none
  | n + 1, l0, l1, l2, h =>
    (fX40_words l0 (8 : Int32) h).bind fun q1 =>
    if q1.1 ≤ l2 then
      z_r l1 (l1, q1.2)
    else
      if l1 = 0 then
        fX40_areRecipesRight_b37 N (fX40_areRecipesRight_b4 N n) l0 l2 q1.2
      else
        (fX40_at N l0 (8 : Int32) l2 (3 : Int32) q1.2).bind fun q5 =>
        (fX40_isThere N l0 q5.1 q5.2).bind fun q6 =>
        if q6.1 = 0 then
          fX40_areRecipesRight_b37 N (fX40_areRecipesRight_b4 N n) l0 l2 q6.2
        else
          fX40_areRecipesRight_b38 N (fX40_areRecipesRight_b4 N n) l0 l2 (1 : Int32) q6.2
theorem pX40_areRecipesRight_b4 {w : eW} {d : Nat} (hd : 5 ≤ d + 1) {N : Nat} : ∀ (n : Nat) l0 l1 l2 h q, fX40_areRecipesRight_b4 N n l0 l1 l2 h = some q → wp w (d + 1) YX40_areRecipesRight 4 [some (.ref l0), some (.int l1), some (.int l2), none] [] h (e_is (e_rn c_I q)) := by
  intro n
  induction n with
  | zero => intro l0 l1 l2 h q hf; simp [fX40_areRecipesRight_b4] at hf
  | succ n ih =>
    intro l0 l1 l2 h q hf
    rw [fX40_areRecipesRight_b4] at hf
    refine w_iload_n dX40_areRecipesRight_4 rfl rfl ?_
    refine w_aload_n dX40_areRecipesRight_5 rfl rfl ?_
    refine w_bipush dX40_areRecipesRight_6 (v := 8) (by decide) ?_
    refine x_cnI hf (e_stS (Yc := YX40_words) (av := [.ref l0, .int (8 : Int32)]) (st := [.int l2]) dX40_areRecipesRight_8 q4919 mX40_words) mX40_words.2.2.1 mX40_words.2.2.2.2.1 (Nat.le_of_ble_eq_true rfl) (Nat.le_of_ble_eq_true rfl) (fun q hq => pX40_words (by omega) hq) (fun q1 hf => ?_)
    refine w_icmp_ge 94 dX40_areRecipesRight_11 (by decide) (fun c2 => ?_) (fun c2 => ?_)
    · replace hf := (if_pos (show q1.1 ≤ l2 from c2)).symm.trans hf
      refine w_iload_n dX40_areRecipesRight_94 rfl rfl ?_
      obtain ⟨b3, rfl⟩ := z_r_some hf
      exact w_iret dX40_areRecipesRight_95 rfl b3 rfl
    · replace hf := (if_neg (show ¬ (q1.1 ≤ l2) from c2)).symm.trans hf
      refine w_iload_n dX40_areRecipesRight_14 rfl rfl ?_
      refine w_if_eq 37 dX40_areRecipesRight_15 (by decide) (fun c4 => ?_) (fun c4 => ?_)
      · replace hf := (if_pos (show l1 = 0 from c4)).symm.trans hf
        exact (pX40_areRecipesRight_b37 hd ih hf).to ⟨rfl, rfl, trivial⟩
      · replace hf := (if_neg (show ¬ (l1 = 0) from c4)).symm.trans hf
        refine w_aload_n dX40_areRecipesRight_18 rfl rfl ?_
        refine w_aload_n dX40_areRecipesRight_19 rfl rfl ?_
        refine w_bipush dX40_areRecipesRight_20 (v := 8) (by decide) ?_
        refine w_iload_n dX40_areRecipesRight_22 rfl rfl ?_
        refine w_iconst dX40_areRecipesRight_23 (v := 3) (by decide) ?_
        refine x_cnI hf (e_stS (Yc := YX40_at) (av := [.ref l0, .int (8 : Int32), .int l2, .int (3 : Int32)]) (st := [.ref l0]) dX40_areRecipesRight_24 q4928 mX40_at) mX40_at.2.2.1 mX40_at.2.2.2.2.1 (Nat.le_of_ble_eq_true rfl) (Nat.le_of_ble_eq_true rfl) (fun q hq => pX40_at (by omega) hq) (fun q5 hf => ?_)
        refine x_cnI hf (e_stS (Yc := YX40_isThere) (av := [.ref l0, .int q5.1]) (st := []) dX40_areRecipesRight_27 q4938 mX40_isThere) mX40_isThere.2.2.1 mX40_isThere.2.2.2.2.1 (Nat.le_of_ble_eq_true rfl) (Nat.le_of_ble_eq_true rfl) (fun q hq => pX40_isThere (by omega) hq) (fun q6 hf => ?_)
        refine w_if_eq 37 dX40_areRecipesRight_30 (by decide) (fun c7 => ?_) (fun c7 => ?_)
        · replace hf := (if_pos (show q6.1 = 0 from c7)).symm.trans hf
          exact (pX40_areRecipesRight_b37 hd ih hf).to ⟨rfl, rfl, trivial⟩
        · replace hf := (if_neg (show ¬ (q6.1 = 0) from c7)).symm.trans hf
          refine w_iconst dX40_areRecipesRight_33 (v := 1) (by decide) ?_
          refine w_goto 38 dX40_areRecipesRight_34 (by decide) ?_
          exact (pX40_areRecipesRight_b38 hd ih hf).to ⟨rfl, rfl, trivial⟩
def fX40_areRecipesRight (N : Nat) (p0 : Nat) (h : eH) : Option (Int32 × eH) :=
  fX40_areRecipesRight_b4 N N p0 (1 : Int32) (0 : Int32) h
theorem pX40_areRecipesRight {w : eW} {d : Nat} (hd : 5 ≤ d) {N : Nat} {p0 : Nat} {h : eH} {q} (hf : fX40_areRecipesRight N p0 h = some q) : wm w d YX40_areRecipesRight [.ref p0] h (e_is (e_rn c_I q)) := by
  obtain ⟨d, rfl⟩ : ∃ e, d = e + 1 := ⟨d - 1, by omega⟩
  show wp w (d + 1) YX40_areRecipesRight 0 [some (.ref p0), none, none, none] [] h _
  unfold fX40_areRecipesRight at hf
  refine w_iconst dX40_areRecipesRight_0 (v := 1) (by decide) ?_
  refine w_istore_n dX40_areRecipesRight_1 rfl (by decide) (ls' := [some (.ref p0), some (.int (1 : Int32)), none, none]) rfl ?_
  refine w_iconst dX40_areRecipesRight_2 (v := 0) (by decide) ?_
  refine w_istore_n dX40_areRecipesRight_3 rfl (by decide) (ls' := [some (.ref p0), some (.int (1 : Int32)), some (.int (0 : Int32)), none]) rfl ?_
  exact (pX40_areRecipesRight_b4 hd N _ _ _ _ _ hf).to ⟨rfl, rfl, rfl, trivial⟩
abbrev cX40_fault : ByteArray := prog_41_method_23_code
def yX40_fault : MethodName := ⟨RX40, "fault", "([BI)I"⟩
def YX40_fault : eY := (yX40_fault, cX40_fault, 4, (Option.some FieldType.int), [])
theorem mX40_fault : e_ms YX40_fault 2 := ⟨q4911, q483, q4912, by decide, by decide +kernel, (e_sig (by decide +kernel))⟩
theorem dX40_fault_0 : decode cX40_fault 0 = .ok (.iload_n 1, 1) := dc_27 (by decide +kernel)
theorem dX40_fault_1 : decode cX40_fault 1 = .ok (.sipush 8192, 3) := dc_17 (a := 32) (b := 0) (v := 8192) (by decide +kernel)
theorem dX40_fault_4 : decode cX40_fault 4 = .ok (.if_icmp .le 5, 3) := dc_164 (a := 0) (b := 5) (v := 5) (by decide +kernel)
theorem dX40_fault_7 : decode cX40_fault 7 = .ok (.iconst 4, 1) := dc_7 (by decide +kernel)
theorem dX40_fault_8 : decode cX40_fault 8 = .ok (.ireturn, 1) := dc_172 (by decide +kernel)
theorem dX40_fault_9 : decode cX40_fault 9 = .ok (.aload_n 0, 1) := dc_42 (by decide +kernel)
theorem dX40_fault_10 : decode cX40_fault 10 = .ok (.iload_n 1, 1) := dc_27 (by decide +kernel)
theorem dX40_fault_11 : decode cX40_fault 11 = .ok (.invokestatic 63, 3) := dc_184 (a := 0) (b := 63) (n := 63) (by decide +kernel)
theorem dX40_fault_14 : decode cX40_fault 14 = .ok (.ifCond .ne 5, 3) := dc_154 (a := 0) (b := 5) (v := 5) (by decide +kernel)
theorem dX40_fault_17 : decode cX40_fault 17 = .ok (.iconst 1, 1) := dc_4 (by decide +kernel)
theorem dX40_fault_18 : decode cX40_fault 18 = .ok (.ireturn, 1) := dc_172 (by decide +kernel)
theorem dX40_fault_19 : decode cX40_fault 19 = .ok (.aload_n 0, 1) := dc_42 (by decide +kernel)
theorem dX40_fault_20 : decode cX40_fault 20 = .ok (.iconst 2, 1) := dc_5 (by decide +kernel)
theorem dX40_fault_21 : decode cX40_fault 21 = .ok (.invokestatic 22, 3) := dc_184 (a := 0) (b := 22) (n := 22) (by decide +kernel)
theorem dX40_fault_24 : decode cX40_fault 24 = .ok (.aload_n 0, 1) := dc_42 (by decide +kernel)
theorem dX40_fault_25 : decode cX40_fault 25 = .ok (.iconst 3, 1) := dc_6 (by decide +kernel)
theorem dX40_fault_26 : decode cX40_fault 26 = .ok (.invokestatic 22, 3) := dc_184 (a := 0) (b := 22) (n := 22) (by decide +kernel)
theorem dX40_fault_29 : decode cX40_fault 29 = .ok (.iconst 1, 1) := dc_4 (by decide +kernel)
theorem dX40_fault_30 : decode cX40_fault 30 = .ok (.iadd, 1) := dc_96 (by decide +kernel)
theorem dX40_fault_31 : decode cX40_fault 31 = .ok (.if_icmp .gt 14, 3) := dc_163 (a := 0) (b := 14) (v := 14) (by decide +kernel)
theorem dX40_fault_34 : decode cX40_fault 34 = .ok (.aload_n 0, 1) := dc_42 (by decide +kernel)
theorem dX40_fault_35 : decode cX40_fault 35 = .ok (.iconst 3, 1) := dc_6 (by decide +kernel)
theorem dX40_fault_36 : decode cX40_fault 36 = .ok (.invokestatic 22, 3) := dc_184 (a := 0) (b := 22) (n := 22) (by decide +kernel)
theorem dX40_fault_39 : decode cX40_fault 39 = .ok (.sipush 255, 3) := dc_17 (a := 0) (b := 255) (v := 255) (by decide +kernel)
theorem dX40_fault_42 : decode cX40_fault 42 = .ok (.if_icmp .le 5, 3) := dc_164 (a := 0) (b := 5) (v := 5) (by decide +kernel)
theorem dX40_fault_45 : decode cX40_fault 45 = .ok (.iconst 2, 1) := dc_5 (by decide +kernel)
theorem dX40_fault_46 : decode cX40_fault 46 = .ok (.ireturn, 1) := dc_172 (by decide +kernel)
theorem dX40_fault_47 : decode cX40_fault 47 = .ok (.aload_n 0, 1) := dc_42 (by decide +kernel)
theorem dX40_fault_48 : decode cX40_fault 48 = .ok (.iconst 0, 1) := dc_3 (by decide +kernel)
theorem dX40_fault_49 : decode cX40_fault 49 = .ok (.invokestatic 26, 3) := dc_184 (a := 0) (b := 26) (n := 26) (by decide +kernel)
theorem dX40_fault_52 : decode cX40_fault 52 = .ok (.iconst 2, 1) := dc_5 (by decide +kernel)
theorem dX40_fault_53 : decode cX40_fault 53 = .ok (.if_icmp .lt 15, 3) := dc_161 (a := 0) (b := 15) (v := 15) (by decide +kernel)
theorem dX40_fault_56 : decode cX40_fault 56 = .ok (.aload_n 0, 1) := dc_42 (by decide +kernel)
theorem dX40_fault_57 : decode cX40_fault 57 = .ok (.bipush 8, 2) := dc_16 (a := 8) (v := 8) (by decide +kernel)
theorem dX40_fault_59 : decode cX40_fault 59 = .ok (.invokestatic 26, 3) := dc_184 (a := 0) (b := 26) (n := 26) (by decide +kernel)
theorem dX40_fault_62 : decode cX40_fault 62 = .ok (.sipush 256, 3) := dc_17 (a := 1) (b := 0) (v := 256) (by decide +kernel)
theorem dX40_fault_65 : decode cX40_fault 65 = .ok (.if_icmp .le 7, 3) := dc_164 (a := 0) (b := 7) (v := 7) (by decide +kernel)
theorem dX40_fault_68 : decode cX40_fault 68 = .ok (.iconst 1, 1) := dc_4 (by decide +kernel)
theorem dX40_fault_69 : decode cX40_fault 69 = .ok (.goto 4, 3) := dc_167 (a := 0) (b := 4) (v := 4) (by decide +kernel)
theorem dX40_fault_72 : decode cX40_fault 72 = .ok (.iconst 0, 1) := dc_3 (by decide +kernel)
theorem dX40_fault_73 : decode cX40_fault 73 = .ok (.istore_n 2, 1) := dc_61 (by decide +kernel)
theorem dX40_fault_74 : decode cX40_fault 74 = .ok (.iconst 2, 1) := dc_5 (by decide +kernel)
theorem dX40_fault_75 : decode cX40_fault 75 = .ok (.istore_n 3, 1) := dc_62 (by decide +kernel)
theorem dX40_fault_76 : decode cX40_fault 76 = .ok (.iload_n 3, 1) := dc_29 (by decide +kernel)
theorem dX40_fault_77 : decode cX40_fault 77 = .ok (.bipush 6, 2) := dc_16 (a := 6) (v := 6) (by decide +kernel)
theorem dX40_fault_79 : decode cX40_fault 79 = .ok (.if_icmp .ge 27, 3) := dc_162 (a := 0) (b := 27) (v := 27) (by decide +kernel)
theorem dX40_fault_82 : decode cX40_fault 82 = .ok (.iload_n 2, 1) := dc_28 (by decide +kernel)
theorem dX40_fault_83 : decode cX40_fault 83 = .ok (.ifCond .ne 11, 3) := dc_154 (a := 0) (b := 11) (v := 11) (by decide +kernel)
theorem dX40_fault_86 : decode cX40_fault 86 = .ok (.aload_n 0, 1) := dc_42 (by decide +kernel)
theorem dX40_fault_87 : decode cX40_fault 87 = .ok (.iload_n 3, 1) := dc_29 (by decide +kernel)
theorem dX40_fault_88 : decode cX40_fault 88 = .ok (.invokestatic 26, 3) := dc_184 (a := 0) (b := 26) (n := 26) (by decide +kernel)
theorem dX40_fault_91 : decode cX40_fault 91 = .ok (.ifCond .ne 7, 3) := dc_154 (a := 0) (b := 7) (v := 7) (by decide +kernel)
theorem dX40_fault_94 : decode cX40_fault 94 = .ok (.iconst 1, 1) := dc_4 (by decide +kernel)
theorem dX40_fault_95 : decode cX40_fault 95 = .ok (.goto 4, 3) := dc_167 (a := 0) (b := 4) (v := 4) (by decide +kernel)
theorem dX40_fault_98 : decode cX40_fault 98 = .ok (.iconst 0, 1) := dc_3 (by decide +kernel)
theorem dX40_fault_99 : decode cX40_fault 99 = .ok (.istore_n 2, 1) := dc_61 (by decide +kernel)
theorem dX40_fault_100 : decode cX40_fault 100 = .ok (.iinc 3 1, 3) := dc_132 (a := 3) (b := 1) (v := 1) (by decide +kernel)
theorem dX40_fault_103 : decode cX40_fault 103 = .ok (.goto (-27), 3) := dc_167 (a := 255) (b := 229) (v := -27) (by decide +kernel)
theorem dX40_fault_106 : decode cX40_fault 106 = .ok (.iload_n 2, 1) := dc_28 (by decide +kernel)
theorem dX40_fault_107 : decode cX40_fault 107 = .ok (.ifCond .eq 5, 3) := dc_153 (a := 0) (b := 5) (v := 5) (by decide +kernel)
theorem dX40_fault_110 : decode cX40_fault 110 = .ok (.iconst 3, 1) := dc_6 (by decide +kernel)
theorem dX40_fault_111 : decode cX40_fault 111 = .ok (.ireturn, 1) := dc_172 (by decide +kernel)
theorem dX40_fault_112 : decode cX40_fault 112 = .ok (.aload_n 0, 1) := dc_42 (by decide +kernel)
theorem dX40_fault_113 : decode cX40_fault 113 = .ok (.iconst 0, 1) := dc_3 (by decide +kernel)
theorem dX40_fault_114 : decode cX40_fault 114 = .ok (.invokestatic 22, 3) := dc_184 (a := 0) (b := 22) (n := 22) (by decide +kernel)
theorem dX40_fault_117 : decode cX40_fault 117 = .ok (.aload_n 0, 1) := dc_42 (by decide +kernel)
theorem dX40_fault_118 : decode cX40_fault 118 = .ok (.bipush 10, 2) := dc_16 (a := 10) (v := 10) (by decide +kernel)
theorem dX40_fault_120 : decode cX40_fault 120 = .ok (.invokestatic 29, 3) := dc_184 (a := 0) (b := 29) (n := 29) (by decide +kernel)
theorem dX40_fault_123 : decode cX40_fault 123 = .ok (.if_icmp .ne 14, 3) := dc_160 (a := 0) (b := 14) (v := 14) (by decide +kernel)
theorem dX40_fault_126 : decode cX40_fault 126 = .ok (.iload_n 1, 1) := dc_27 (by decide +kernel)
theorem dX40_fault_127 : decode cX40_fault 127 = .ok (.iconst 4, 1) := dc_7 (by decide +kernel)
theorem dX40_fault_128 : decode cX40_fault 128 = .ok (.aload_n 0, 1) := dc_42 (by decide +kernel)
theorem dX40_fault_129 : decode cX40_fault 129 = .ok (.iconst 0, 1) := dc_3 (by decide +kernel)
theorem dX40_fault_130 : decode cX40_fault 130 = .ok (.invokestatic 22, 3) := dc_184 (a := 0) (b := 22) (n := 22) (by decide +kernel)
theorem dX40_fault_133 : decode cX40_fault 133 = .ok (.imul, 1) := dc_104 (by decide +kernel)
theorem dX40_fault_134 : decode cX40_fault 134 = .ok (.if_icmp .eq 5, 3) := dc_159 (a := 0) (b := 5) (v := 5) (by decide +kernel)
theorem dX40_fault_137 : decode cX40_fault 137 = .ok (.iconst 4, 1) := dc_7 (by decide +kernel)
theorem dX40_fault_138 : decode cX40_fault 138 = .ok (.ireturn, 1) := dc_172 (by decide +kernel)
theorem dX40_fault_139 : decode cX40_fault 139 = .ok (.aload_n 0, 1) := dc_42 (by decide +kernel)
theorem dX40_fault_140 : decode cX40_fault 140 = .ok (.invokestatic 66, 3) := dc_184 (a := 0) (b := 66) (n := 66) (by decide +kernel)
theorem dX40_fault_143 : decode cX40_fault 143 = .ok (.ldc 69, 2) := dc_18 (a := 69) (by decide +kernel)
theorem dX40_fault_145 : decode cX40_fault 145 = .ok (.if_icmp .ge 5, 3) := dc_162 (a := 0) (b := 5) (v := 5) (by decide +kernel)
theorem dX40_fault_148 : decode cX40_fault 148 = .ok (.iconst 5, 1) := dc_8 (by decide +kernel)
theorem dX40_fault_149 : decode cX40_fault 149 = .ok (.ireturn, 1) := dc_172 (by decide +kernel)
theorem dX40_fault_150 : decode cX40_fault 150 = .ok (.aload_n 0, 1) := dc_42 (by decide +kernel)
theorem dX40_fault_151 : decode cX40_fault 151 = .ok (.invokestatic 70, 3) := dc_184 (a := 0) (b := 70) (n := 70) (by decide +kernel)
theorem dX40_fault_154 : decode cX40_fault 154 = .ok (.ifCond .ne 6, 3) := dc_154 (a := 0) (b := 6) (v := 6) (by decide +kernel)
theorem dX40_fault_157 : decode cX40_fault 157 = .ok (.bipush 6, 2) := dc_16 (a := 6) (v := 6) (by decide +kernel)
theorem dX40_fault_159 : decode cX40_fault 159 = .ok (.ireturn, 1) := dc_172 (by decide +kernel)
theorem dX40_fault_160 : decode cX40_fault 160 = .ok (.aload_n 0, 1) := dc_42 (by decide +kernel)
theorem dX40_fault_161 : decode cX40_fault 161 = .ok (.invokestatic 74, 3) := dc_184 (a := 0) (b := 74) (n := 74) (by decide +kernel)
theorem dX40_fault_164 : decode cX40_fault 164 = .ok (.ifCond .ne 6, 3) := dc_154 (a := 0) (b := 6) (v := 6) (by decide +kernel)
theorem dX40_fault_167 : decode cX40_fault 167 = .ok (.bipush 7, 2) := dc_16 (a := 7) (v := 7) (by decide +kernel)
theorem dX40_fault_169 : decode cX40_fault 169 = .ok (.ireturn, 1) := dc_172 (by decide +kernel)
theorem dX40_fault_170 : decode cX40_fault 170 = .ok (.aload_n 0, 1) := dc_42 (by decide +kernel)
theorem dX40_fault_171 : decode cX40_fault 171 = .ok (.invokestatic 77, 3) := dc_184 (a := 0) (b := 77) (n := 77) (by decide +kernel)
theorem dX40_fault_174 : decode cX40_fault 174 = .ok (.ifCond .ne 6, 3) := dc_154 (a := 0) (b := 6) (v := 6) (by decide +kernel)
theorem dX40_fault_177 : decode cX40_fault 177 = .ok (.bipush 8, 2) := dc_16 (a := 8) (v := 8) (by decide +kernel)
theorem dX40_fault_179 : decode cX40_fault 179 = .ok (.ireturn, 1) := dc_172 (by decide +kernel)
theorem dX40_fault_180 : decode cX40_fault 180 = .ok (.aload_n 0, 1) := dc_42 (by decide +kernel)
theorem dX40_fault_181 : decode cX40_fault 181 = .ok (.invokestatic 80, 3) := dc_184 (a := 0) (b := 80) (n := 80) (by decide +kernel)
theorem dX40_fault_184 : decode cX40_fault 184 = .ok (.ifCond .ne 6, 3) := dc_154 (a := 0) (b := 6) (v := 6) (by decide +kernel)
theorem dX40_fault_187 : decode cX40_fault 187 = .ok (.bipush 9, 2) := dc_16 (a := 9) (v := 9) (by decide +kernel)
theorem dX40_fault_189 : decode cX40_fault 189 = .ok (.ireturn, 1) := dc_172 (by decide +kernel)
theorem dX40_fault_190 : decode cX40_fault 190 = .ok (.aload_n 0, 1) := dc_42 (by decide +kernel)
theorem dX40_fault_191 : decode cX40_fault 191 = .ok (.invokestatic 83, 3) := dc_184 (a := 0) (b := 83) (n := 83) (by decide +kernel)
theorem dX40_fault_194 : decode cX40_fault 194 = .ok (.ifCond .ne 8, 3) := dc_154 (a := 0) (b := 8) (v := 8) (by decide +kernel)
theorem dX40_fault_197 : decode cX40_fault 197 = .ok (.bipush 10, 2) := dc_16 (a := 10) (v := 10) (by decide +kernel)
theorem dX40_fault_199 : decode cX40_fault 199 = .ok (.goto 19, 3) := dc_167 (a := 0) (b := 19) (v := 19) (by decide +kernel)
theorem dX40_fault_202 : decode cX40_fault 202 = .ok (.aload_n 0, 1) := dc_42 (by decide +kernel)
theorem dX40_fault_203 : decode cX40_fault 203 = .ok (.bipush 9, 2) := dc_16 (a := 9) (v := 9) (by decide +kernel)
theorem dX40_fault_205 : decode cX40_fault 205 = .ok (.iconst 1, 1) := dc_4 (by decide +kernel)
theorem dX40_fault_206 : decode cX40_fault 206 = .ok (.invokestatic 52, 3) := dc_184 (a := 0) (b := 52) (n := 52) (by decide +kernel)
theorem dX40_fault_209 : decode cX40_fault 209 = .ok (.ifCond .eq 7, 3) := dc_153 (a := 0) (b := 7) (v := 7) (by decide +kernel)
theorem dX40_fault_212 : decode cX40_fault 212 = .ok (.iconst 0, 1) := dc_3 (by decide +kernel)
theorem dX40_fault_213 : decode cX40_fault 213 = .ok (.goto 5, 3) := dc_167 (a := 0) (b := 5) (v := 5) (by decide +kernel)
theorem dX40_fault_216 : decode cX40_fault 216 = .ok (.bipush 11, 2) := dc_16 (a := 11) (v := 11) (by decide +kernel)
theorem dX40_fault_218 : decode cX40_fault 218 = .ok (.ireturn, 1) := dc_172 (by decide +kernel)
def fX40_fault_b45 (N : Nat)  (h : eH) : Option (Int32 × eH) :=
  some ((2 : Int32), h)
theorem pX40_fault_b45 {w : eW} {d : Nat} (hd : 7 ≤ d + 1) {N : Nat}  {h : eH} {q} (hf : fX40_fault_b45 N h = some q) : wp w (d + 1) YX40_fault 45 [none, none, none, none] [] h (e_is (e_rn c_I q)) := by
  unfold fX40_fault_b45 at hf
  refine w_iconst dX40_fault_45 (v := 2) (by decide) ?_
  cases hf
  exact w_iret dX40_fault_46 rfl rfl rfl
def fX40_fault_b99 (N : Nat) (k76 : Nat → Int32 → Int32 → Int32 → eH → Option (Int32 × eH)) (l0 : Nat) (l1 : Int32) (l3 : Int32) (s0 : Int32) (h : eH) : Option (Int32 × eH) :=
  k76 l0 l1 s0 (l3 + (1 : Int32)) h
theorem pX40_fault_b99 {w : eW} {d : Nat} (hd : 7 ≤ d + 1) {N : Nat} {k76 : Nat → Int32 → Int32 → Int32 → eH → Option (Int32 × eH)} (hk76 : ∀ l0 l1 l2 l3 h q, k76 l0 l1 l2 l3 h = some q → wp w (d + 1) YX40_fault 76 [some (.ref l0), some (.int l1), some (.int l2), some (.int l3)] [] h (e_is (e_rn c_I q))) {l0 : Nat} {l1 : Int32} {l3 : Int32} {s0 : Int32} {h : eH} {q} (hf : fX40_fault_b99 N k76 l0 l1 l3 s0 h = some q) : wp w (d + 1) YX40_fault 99 [some (.ref l0), some (.int l1), none, some (.int l3)] [.int s0] h (e_is (e_rn c_I q)) := by
  unfold fX40_fault_b99 at hf
  refine w_istore_n dX40_fault_99 rfl (by decide) (ls' := [some (.ref l0), some (.int l1), some (.int s0), some (.int l3)]) rfl ?_
  refine w_iinc dX40_fault_100 (v := (l3 + (1 : Int32))) rfl rfl (by decide) (ls' := [some (.ref l0), some (.int l1), some (.int s0), some (.int (l3 + (1 : Int32)))]) rfl ?_
  refine w_goto 76 dX40_fault_103 (by decide) ?_
  exact (hk76 _ _ _ _ _ _ hf).to ⟨rfl, rfl, rfl, rfl, trivial⟩
def fX40_fault_b94 (N : Nat) (k76 : Nat → Int32 → Int32 → Int32 → eH → Option (Int32 × eH)) (l0 : Nat) (l1 : Int32) (l3 : Int32) (h : eH) : Option (Int32 × eH) :=
  fX40_fault_b99 N k76 l0 l1 l3 (1 : Int32) h
theorem pX40_fault_b94 {w : eW} {d : Nat} (hd : 7 ≤ d + 1) {N : Nat} {k76 : Nat → Int32 → Int32 → Int32 → eH → Option (Int32 × eH)} (hk76 : ∀ l0 l1 l2 l3 h q, k76 l0 l1 l2 l3 h = some q → wp w (d + 1) YX40_fault 76 [some (.ref l0), some (.int l1), some (.int l2), some (.int l3)] [] h (e_is (e_rn c_I q))) {l0 : Nat} {l1 : Int32} {l3 : Int32} {h : eH} {q} (hf : fX40_fault_b94 N k76 l0 l1 l3 h = some q) : wp w (d + 1) YX40_fault 94 [some (.ref l0), some (.int l1), none, some (.int l3)] [] h (e_is (e_rn c_I q)) := by
  unfold fX40_fault_b94 at hf
  refine w_iconst dX40_fault_94 (v := 1) (by decide) ?_
  refine w_goto 99 dX40_fault_95 (by decide) ?_
  exact (pX40_fault_b99 hd hk76 hf).to ⟨rfl, rfl, rfl, trivial⟩
def fX40_fault_b137 (N : Nat)  (h : eH) : Option (Int32 × eH) :=
  some ((4 : Int32), h)
theorem pX40_fault_b137 {w : eW} {d : Nat} (hd : 7 ≤ d + 1) {N : Nat}  {h : eH} {q} (hf : fX40_fault_b137 N h = some q) : wp w (d + 1) YX40_fault 137 [none, none, none, none] [] h (e_is (e_rn c_I q)) := by
  unfold fX40_fault_b137 at hf
  refine w_iconst dX40_fault_137 (v := 4) (by decide) ?_
  cases hf
  exact w_iret dX40_fault_138 rfl rfl rfl
def fX40_fault_b218 (N : Nat) (s0 : Int32) (h : eH) : Option (Int32 × eH) :=
  some (s0, h)
theorem pX40_fault_b218 {w : eW} {d : Nat} (hd : 7 ≤ d + 1) {N : Nat} {s0 : Int32} {h : eH} {q} (hf : fX40_fault_b218 N s0 h = some q) : wp w (d + 1) YX40_fault 218 [none, none, none, none] [.int s0] h (e_is (e_rn c_I q)) := by
  unfold fX40_fault_b218 at hf
  cases hf
  exact w_iret dX40_fault_218 rfl rfl rfl
def fX40_fault_b76 (N : Nat) : Nat → Nat → Int32 → Int32 → Int32 → eH → Option (Int32 × eH)
  | 0, _, _, _, _, _ => none
  | n + 1, l0, l1, l2, l3, h =>
    if (6 : Int32) ≤ l3 then
      if l2 = 0 then
        (fX40_half l0 (0 : Int32) h).bind fun q3 =>
        (fX40_start N l0 (10 : Int32) q3.2).bind fun q4 =>
        if ¬ q3.1 = q4.1 then
          fX40_fault_b137 N q4.2
        else
          (fX40_half l0 (0 : Int32) q4.2).bind fun q6 =>
          if l1 = ((4 : Int32) * q6.1) then
            (fX40_designOf N l0 q6.2).bind fun q8 =>
            if (1048576 : Int32) ≤ q8.1 then
              (fX40_areSizesRight N l0 q8.2).bind fun q10 =>
              if ¬ q10.1 = 0 then
                (fX40_areTagsRight N l0 q10.2).bind fun q12 =>
                if ¬ q12.1 = 0 then
                  (fX40_areTablesRight N l0 q12.2).bind fun q14 =>
                  if ¬ q14.1 = 0 then
                    (fX40_isProgramRight N l0 q14.2).bind fun q16 =>
                    if ¬ q16.1 = 0 then
                      (fX40_areRecipesRight N l0 q16.2).bind fun q18 =>
                      if ¬ q18.1 = 0 then
                        (fX40_areFractions N l0 (9 : Int32) (1 : Int32) q18.2).bind fun q20 =>
                        if q20.1 = 0 then
                          fX40_fault_b218 N (11 : Int32) q20.2
                        else
                          fX40_fault_b218 N (0 : Int32) q20.2
                      else
                        fX40_fault_b218 N (10 : Int32) q18.2
                    else
                      some ((9 : Int32), q16.2)
                  else
                    some ((8 : Int32), q14.2)
                else
                  some ((7 : Int32), q12.2)
              else
                some ((6 : Int32), q10.2)
            else
              some ((5 : Int32), q8.2)
          else
            fX40_fault_b137 N q6.2
      else
        some ((3 : Int32), h)
    else
      if ¬ l2 = 0 then
        fX40_fault_b94 N (fX40_fault_b76 N n) l0 l1 l3 h
      else
        (fX40_words l0 l3 h).bind fun q23 =>
        if ¬ q23.1 = 0 then
          fX40_fault_b99 N (fX40_fault_b76 N n) l0 l1 l3 (0 : Int32) q23.2
        else
          fX40_fault_b94 N (fX40_fault_b76 N n) l0 l1 l3 q23.2
theorem pX40_fault_b76 {w : eW} {d : Nat} (hd : 7 ≤ d + 1) {N : Nat} : ∀ (n : Nat) l0 l1 l2 l3 h q, fX40_fault_b76 N n l0 l1 l2 l3 h = some q → wp w (d + 1) YX40_fault 76 [some (.ref l0), some (.int l1), some (.int l2), some (.int l3)] [] h (e_is (e_rn c_I q)) := by
  intro n
  induction n with
  | zero => intro l0 l1 l2 l3 h q hf; simp [fX40_fault_b76] at hf
  | succ n ih =>
    intro l0 l1 l2 l3 h q hf
    rw [fX40_fault_b76] at hf
    refine w_iload_n dX40_fault_76 rfl rfl ?_
    refine w_bipush dX40_fault_77 (v := 6) (by decide) ?_
    refine w_icmp_ge 106 dX40_fault_79 (by decide) (fun c1 => ?_) (fun c1 => ?_)
    · replace hf := (if_pos (show (6 : Int32) ≤ l3 from c1)).symm.trans hf
      refine w_iload_n dX40_fault_106 rfl rfl ?_
      refine w_if_eq 112 dX40_fault_107 (by decide) (fun c2 => ?_) (fun c2 => ?_)
      · replace hf := (if_pos (show l2 = 0 from c2)).symm.trans hf
        refine w_aload_n dX40_fault_112 rfl rfl ?_
        refine w_iconst dX40_fault_113 (v := 0) (by decide) ?_
        refine x_cnI hf (e_stS (Yc := YX40_half) (av := [.ref l0, .int (0 : Int32)]) (st := []) dX40_fault_114 q4916 mX40_half) mX40_half.2.2.1 mX40_half.2.2.2.2.1 (Nat.le_of_ble_eq_true rfl) (Nat.le_of_ble_eq_true rfl) (fun q hq => pX40_half (by omega) hq) (fun q3 hf => ?_)
        refine w_aload_n dX40_fault_117 rfl rfl ?_
        refine w_bipush dX40_fault_118 (v := 10) (by decide) ?_
        refine x_cnI hf (e_stS (Yc := YX40_start) (av := [.ref l0, .int (10 : Int32)]) (st := [.int q3.1]) dX40_fault_120 q4922 mX40_start) mX40_start.2.2.1 mX40_start.2.2.2.2.1 (Nat.le_of_ble_eq_true rfl) (Nat.le_of_ble_eq_true rfl) (fun q hq => pX40_start (by omega) hq) (fun q4 hf => ?_)
        refine w_icmp_ne 137 dX40_fault_123 (by decide) (fun c5 => ?_) (fun c5 => ?_)
        · replace hf := (if_pos (show ¬ q3.1 = q4.1 from c5)).symm.trans hf
          exact (pX40_fault_b137 hd hf).to trivial
        · replace hf := (if_neg (show ¬ (¬ q3.1 = q4.1) from (fun z => z c5))).symm.trans hf
          refine w_iload_n dX40_fault_126 rfl rfl ?_
          refine w_iconst dX40_fault_127 (v := 4) (by decide) ?_
          refine w_aload_n dX40_fault_128 rfl rfl ?_
          refine w_iconst dX40_fault_129 (v := 0) (by decide) ?_
          refine x_cnI hf (e_stS (Yc := YX40_half) (av := [.ref l0, .int (0 : Int32)]) (st := [.int (4 : Int32), .int l1]) dX40_fault_130 q4916 mX40_half) mX40_half.2.2.1 mX40_half.2.2.2.2.1 (Nat.le_of_ble_eq_true rfl) (Nat.le_of_ble_eq_true rfl) (fun q hq => pX40_half (by omega) hq) (fun q6 hf => ?_)
          refine w_imul dX40_fault_133 ?_
          refine w_icmp_eq 139 dX40_fault_134 (by decide) (fun c7 => ?_) (fun c7 => ?_)
          · replace hf := (if_pos (show l1 = ((4 : Int32) * q6.1) from c7)).symm.trans hf
            refine w_aload_n dX40_fault_139 rfl rfl ?_
            refine x_cnI hf (e_stS (Yc := YX40_designOf) (av := [.ref l0]) (st := []) dX40_fault_140 q4925 mX40_designOf) mX40_designOf.2.2.1 mX40_designOf.2.2.2.2.1 (Nat.le_of_ble_eq_true rfl) (Nat.le_of_ble_eq_true rfl) (fun q hq => pX40_designOf (by omega) hq) (fun q8 hf => ?_)
            refine w_ldc dX40_fault_143 q4931 ?_
            refine w_icmp_ge 150 dX40_fault_145 (by decide) (fun c9 => ?_) (fun c9 => ?_)
            · replace hf := (if_pos (show (1048576 : Int32) ≤ q8.1 from c9)).symm.trans hf
              refine w_aload_n dX40_fault_150 rfl rfl ?_
              refine x_cnI hf (e_stS (Yc := YX40_areSizesRight) (av := [.ref l0]) (st := []) dX40_fault_151 q4932 mX40_areSizesRight) mX40_areSizesRight.2.2.1 mX40_areSizesRight.2.2.2.2.1 (Nat.le_of_ble_eq_true rfl) (Nat.le_of_ble_eq_true rfl) (fun q hq => pX40_areSizesRight (by omega) hq) (fun q10 hf => ?_)
              refine w_if_ne 160 dX40_fault_154 (by decide) (fun c11 => ?_) (fun c11 => ?_)
              · replace hf := (if_pos (show ¬ q10.1 = 0 from c11)).symm.trans hf
                refine w_aload_n dX40_fault_160 rfl rfl ?_
                refine x_cnI hf (e_stS (Yc := YX40_areTagsRight) (av := [.ref l0]) (st := []) dX40_fault_161 q4935 mX40_areTagsRight) mX40_areTagsRight.2.2.1 mX40_areTagsRight.2.2.2.2.1 (Nat.le_of_ble_eq_true rfl) (Nat.le_of_ble_eq_true rfl) (fun q hq => pX40_areTagsRight (by omega) hq) (fun q12 hf => ?_)
                refine w_if_ne 170 dX40_fault_164 (by decide) (fun c13 => ?_) (fun c13 => ?_)
                · replace hf := (if_pos (show ¬ q12.1 = 0 from c13)).symm.trans hf
                  refine w_aload_n dX40_fault_170 rfl rfl ?_
                  refine x_cnI hf (e_stS (Yc := YX40_areTablesRight) (av := [.ref l0]) (st := []) dX40_fault_171 q4950 mX40_areTablesRight) mX40_areTablesRight.2.2.1 mX40_areTablesRight.2.2.2.2.1 (Nat.le_of_ble_eq_true rfl) (Nat.le_of_ble_eq_true rfl) (fun q hq => pX40_areTablesRight (by omega) hq) (fun q14 hf => ?_)
                  refine w_if_ne 180 dX40_fault_174 (by decide) (fun c15 => ?_) (fun c15 => ?_)
                  · replace hf := (if_pos (show ¬ q14.1 = 0 from c15)).symm.trans hf
                    refine w_aload_n dX40_fault_180 rfl rfl ?_
                    refine x_cnI hf (e_stS (Yc := YX40_isProgramRight) (av := [.ref l0]) (st := []) dX40_fault_181 q4956 mX40_isProgramRight) mX40_isProgramRight.2.2.1 mX40_isProgramRight.2.2.2.2.1 (Nat.le_of_ble_eq_true rfl) (Nat.le_of_ble_eq_true rfl) (fun q hq => pX40_isProgramRight (by omega) hq) (fun q16 hf => ?_)
                    refine w_if_ne 190 dX40_fault_184 (by decide) (fun c17 => ?_) (fun c17 => ?_)
                    · replace hf := (if_pos (show ¬ q16.1 = 0 from c17)).symm.trans hf
                      refine w_aload_n dX40_fault_190 rfl rfl ?_
                      refine x_cnI hf (e_stS (Yc := YX40_areRecipesRight) (av := [.ref l0]) (st := []) dX40_fault_191 q4968 mX40_areRecipesRight) mX40_areRecipesRight.2.2.1 mX40_areRecipesRight.2.2.2.2.1 (Nat.le_of_ble_eq_true rfl) (Nat.le_of_ble_eq_true rfl) (fun q hq => pX40_areRecipesRight (by omega) hq) (fun q18 hf => ?_)
                      refine w_if_ne 202 dX40_fault_194 (by decide) (fun c19 => ?_) (fun c19 => ?_)
                      · replace hf := (if_pos (show ¬ q18.1 = 0 from c19)).symm.trans hf
                        refine w_aload_n dX40_fault_202 rfl rfl ?_
                        refine w_bipush dX40_fault_203 (v := 9) (by decide) ?_
                        refine w_iconst dX40_fault_205 (v := 1) (by decide) ?_
                        refine x_cnI hf (e_stS (Yc := YX40_areFractions) (av := [.ref l0, .int (9 : Int32), .int (1 : Int32)]) (st := []) dX40_fault_206 q4953 mX40_areFractions) mX40_areFractions.2.2.1 mX40_areFractions.2.2.2.2.1 (Nat.le_of_ble_eq_true rfl) (Nat.le_of_ble_eq_true rfl) (fun q hq => pX40_areFractions (by omega) hq) (fun q20 hf => ?_)
                        refine w_if_eq 216 dX40_fault_209 (by decide) (fun c21 => ?_) (fun c21 => ?_)
                        · replace hf := (if_pos (show q20.1 = 0 from c21)).symm.trans hf
                          refine w_bipush dX40_fault_216 (v := 11) (by decide) ?_
                          exact (pX40_fault_b218 hd hf).to trivial
                        · replace hf := (if_neg (show ¬ (q20.1 = 0) from c21)).symm.trans hf
                          refine w_iconst dX40_fault_212 (v := 0) (by decide) ?_
                          refine w_goto 218 dX40_fault_213 (by decide) ?_
                          exact (pX40_fault_b218 hd hf).to trivial
                      · replace hf := (if_neg (show ¬ (¬ q18.1 = 0) from (fun z => z c19))).symm.trans hf
                        refine w_bipush dX40_fault_197 (v := 10) (by decide) ?_
                        refine w_goto 218 dX40_fault_199 (by decide) ?_
                        exact (pX40_fault_b218 hd hf).to trivial
                    · replace hf := (if_neg (show ¬ (¬ q16.1 = 0) from (fun z => z c17))).symm.trans hf
                      refine w_bipush dX40_fault_187 (v := 9) (by decide) ?_
                      cases hf
                      exact w_iret dX40_fault_189 rfl rfl rfl
                  · replace hf := (if_neg (show ¬ (¬ q14.1 = 0) from (fun z => z c15))).symm.trans hf
                    refine w_bipush dX40_fault_177 (v := 8) (by decide) ?_
                    cases hf
                    exact w_iret dX40_fault_179 rfl rfl rfl
                · replace hf := (if_neg (show ¬ (¬ q12.1 = 0) from (fun z => z c13))).symm.trans hf
                  refine w_bipush dX40_fault_167 (v := 7) (by decide) ?_
                  cases hf
                  exact w_iret dX40_fault_169 rfl rfl rfl
              · replace hf := (if_neg (show ¬ (¬ q10.1 = 0) from (fun z => z c11))).symm.trans hf
                refine w_bipush dX40_fault_157 (v := 6) (by decide) ?_
                cases hf
                exact w_iret dX40_fault_159 rfl rfl rfl
            · replace hf := (if_neg (show ¬ ((1048576 : Int32) ≤ q8.1) from c9)).symm.trans hf
              refine w_iconst dX40_fault_148 (v := 5) (by decide) ?_
              cases hf
              exact w_iret dX40_fault_149 rfl rfl rfl
          · replace hf := (if_neg (show ¬ (l1 = ((4 : Int32) * q6.1)) from c7)).symm.trans hf
            exact (pX40_fault_b137 hd hf).to trivial
      · replace hf := (if_neg (show ¬ (l2 = 0) from c2)).symm.trans hf
        refine w_iconst dX40_fault_110 (v := 3) (by decide) ?_
        cases hf
        exact w_iret dX40_fault_111 rfl rfl rfl
    · replace hf := (if_neg (show ¬ ((6 : Int32) ≤ l3) from c1)).symm.trans hf
      refine w_iload_n dX40_fault_82 rfl rfl ?_
      refine w_if_ne 94 dX40_fault_83 (by decide) (fun c22 => ?_) (fun c22 => ?_)
      · replace hf := (if_pos (show ¬ l2 = 0 from c22)).symm.trans hf
        exact (pX40_fault_b94 hd ih hf).to ⟨rfl, rfl, rfl, trivial⟩
      · replace hf := (if_neg (show ¬ (¬ l2 = 0) from (fun z => z c22))).symm.trans hf
        refine w_aload_n dX40_fault_86 rfl rfl ?_
        refine w_iload_n dX40_fault_87 rfl rfl ?_
        refine x_cnI hf (e_stS (Yc := YX40_words) (av := [.ref l0, .int l3]) (st := []) dX40_fault_88 q4919 mX40_words) mX40_words.2.2.1 mX40_words.2.2.2.2.1 (Nat.le_of_ble_eq_true rfl) (Nat.le_of_ble_eq_true rfl) (fun q hq => pX40_words (by omega) hq) (fun q23 hf => ?_)
        refine w_if_ne 98 dX40_fault_91 (by decide) (fun c24 => ?_) (fun c24 => ?_)
        · replace hf := (if_pos (show ¬ q23.1 = 0 from c24)).symm.trans hf
          refine w_iconst dX40_fault_98 (v := 0) (by decide) ?_
          exact (pX40_fault_b99 hd ih hf).to ⟨rfl, rfl, rfl, trivial⟩
        · replace hf := (if_neg (show ¬ (¬ q23.1 = 0) from (fun z => z c24))).symm.trans hf
          exact (pX40_fault_b94 hd ih hf).to ⟨rfl, rfl, rfl, trivial⟩
def fX40_fault_b73 (N : Nat) (l0 : Nat) (l1 : Int32) (s0 : Int32) (h : eH) : Option (Int32 × eH) :=
  fX40_fault_b76 N N l0 l1 s0 (2 : Int32) h
theorem pX40_fault_b73 {w : eW} {d : Nat} (hd : 7 ≤ d + 1) {N : Nat} {l0 : Nat} {l1 : Int32} {s0 : Int32} {h : eH} {q} (hf : fX40_fault_b73 N l0 l1 s0 h = some q) : wp w (d + 1) YX40_fault 73 [some (.ref l0), some (.int l1), none, none] [.int s0] h (e_is (e_rn c_I q)) := by
  unfold fX40_fault_b73 at hf
  refine w_istore_n dX40_fault_73 rfl (by decide) (ls' := [some (.ref l0), some (.int l1), some (.int s0), none]) rfl ?_
  refine w_iconst dX40_fault_74 (v := 2) (by decide) ?_
  refine w_istore_n dX40_fault_75 rfl (by decide) (ls' := [some (.ref l0), some (.int l1), some (.int s0), some (.int (2 : Int32))]) rfl ?_
  exact (pX40_fault_b76 hd N _ _ _ _ _ _ hf).to ⟨rfl, rfl, rfl, rfl, trivial⟩
def fX40_fault_b68 (N : Nat) (l0 : Nat) (l1 : Int32) (h : eH) : Option (Int32 × eH) :=
  fX40_fault_b73 N l0 l1 (1 : Int32) h
theorem pX40_fault_b68 {w : eW} {d : Nat} (hd : 7 ≤ d + 1) {N : Nat} {l0 : Nat} {l1 : Int32} {h : eH} {q} (hf : fX40_fault_b68 N l0 l1 h = some q) : wp w (d + 1) YX40_fault 68 [some (.ref l0), some (.int l1), none, none] [] h (e_is (e_rn c_I q)) := by
  unfold fX40_fault_b68 at hf
  refine w_iconst dX40_fault_68 (v := 1) (by decide) ?_
  refine w_goto 73 dX40_fault_69 (by decide) ?_
  exact (pX40_fault_b73 hd hf).to ⟨rfl, rfl, trivial⟩
def fX40_fault (N : Nat) (p0 : Nat) (p1 : Int32) (h : eH) : Option (Int32 × eH) :=
  if p1 ≤ (8192 : Int32) then
    (fX40_areNumbersSmall N p0 p1 h).bind fun q2 =>
    if ¬ q2.1 = 0 then
      (fX40_half p0 (2 : Int32) q2.2).bind fun q4 =>
      (fX40_half p0 (3 : Int32) q4.2).bind fun q5 =>
      if (q5.1 + (1 : Int32)) < q4.1 then
        fX40_fault_b45 N q5.2
      else
        (fX40_half p0 (3 : Int32) q5.2).bind fun q7 =>
        if q7.1 ≤ (255 : Int32) then
          (fX40_words p0 (0 : Int32) q7.2).bind fun q9 =>
          if q9.1 < (2 : Int32) then
            fX40_fault_b68 N p0 p1 q9.2
          else
            (fX40_words p0 (8 : Int32) q9.2).bind fun q11 =>
            if q11.1 ≤ (256 : Int32) then
              fX40_fault_b73 N p0 p1 (0 : Int32) q11.2
            else
              fX40_fault_b68 N p0 p1 q11.2
        else
          fX40_fault_b45 N q7.2
    else
      some ((1 : Int32), q2.2)
  else
    some ((4 : Int32), h)
theorem pX40_fault {w : eW} {d : Nat} (hd : 7 ≤ d) {N : Nat} {p0 : Nat} {p1 : Int32} {h : eH} {q} (hf : fX40_fault N p0 p1 h = some q) : wm w d YX40_fault [.ref p0, .int p1] h (e_is (e_rn c_I q)) := by
  obtain ⟨d, rfl⟩ : ∃ e, d = e + 1 := ⟨d - 1, by omega⟩
  show wp w (d + 1) YX40_fault 0 [some (.ref p0), some (.int p1), none, none] [] h _
  unfold fX40_fault at hf
  refine w_iload_n dX40_fault_0 rfl rfl ?_
  refine w_sipush dX40_fault_1 (v := 8192) (by decide) ?_
  refine w_icmp_le 9 dX40_fault_4 (by decide) (fun c1 => ?_) (fun c1 => ?_)
  · replace hf := (if_pos (show p1 ≤ (8192 : Int32) from c1)).symm.trans hf
    refine w_aload_n dX40_fault_9 rfl rfl ?_
    refine w_iload_n dX40_fault_10 rfl rfl ?_
    refine x_cnI hf (e_stS (Yc := YX40_areNumbersSmall) (av := [.ref p0, .int p1]) (st := []) dX40_fault_11 q4913 mX40_areNumbersSmall) mX40_areNumbersSmall.2.2.1 mX40_areNumbersSmall.2.2.2.2.1 (Nat.le_of_ble_eq_true rfl) (Nat.le_of_ble_eq_true rfl) (fun q hq => pX40_areNumbersSmall (by omega) hq) (fun q2 hf => ?_)
    refine w_if_ne 19 dX40_fault_14 (by decide) (fun c3 => ?_) (fun c3 => ?_)
    · replace hf := (if_pos (show ¬ q2.1 = 0 from c3)).symm.trans hf
      refine w_aload_n dX40_fault_19 rfl rfl ?_
      refine w_iconst dX40_fault_20 (v := 2) (by decide) ?_
      refine x_cnI hf (e_stS (Yc := YX40_half) (av := [.ref p0, .int (2 : Int32)]) (st := []) dX40_fault_21 q4916 mX40_half) mX40_half.2.2.1 mX40_half.2.2.2.2.1 (Nat.le_of_ble_eq_true rfl) (Nat.le_of_ble_eq_true rfl) (fun q hq => pX40_half (by omega) hq) (fun q4 hf => ?_)
      refine w_aload_n dX40_fault_24 rfl rfl ?_
      refine w_iconst dX40_fault_25 (v := 3) (by decide) ?_
      refine x_cnI hf (e_stS (Yc := YX40_half) (av := [.ref p0, .int (3 : Int32)]) (st := [.int q4.1]) dX40_fault_26 q4916 mX40_half) mX40_half.2.2.1 mX40_half.2.2.2.2.1 (Nat.le_of_ble_eq_true rfl) (Nat.le_of_ble_eq_true rfl) (fun q hq => pX40_half (by omega) hq) (fun q5 hf => ?_)
      refine w_iconst dX40_fault_29 (v := 1) (by decide) ?_
      refine w_iadd dX40_fault_30 ?_
      refine w_icmp_gt 45 dX40_fault_31 (by decide) (fun c6 => ?_) (fun c6 => ?_)
      · replace hf := (if_pos (show (q5.1 + (1 : Int32)) < q4.1 from c6)).symm.trans hf
        exact (pX40_fault_b45 hd hf).to trivial
      · replace hf := (if_neg (show ¬ ((q5.1 + (1 : Int32)) < q4.1) from c6)).symm.trans hf
        refine w_aload_n dX40_fault_34 rfl rfl ?_
        refine w_iconst dX40_fault_35 (v := 3) (by decide) ?_
        refine x_cnI hf (e_stS (Yc := YX40_half) (av := [.ref p0, .int (3 : Int32)]) (st := []) dX40_fault_36 q4916 mX40_half) mX40_half.2.2.1 mX40_half.2.2.2.2.1 (Nat.le_of_ble_eq_true rfl) (Nat.le_of_ble_eq_true rfl) (fun q hq => pX40_half (by omega) hq) (fun q7 hf => ?_)
        refine w_sipush dX40_fault_39 (v := 255) (by decide) ?_
        refine w_icmp_le 47 dX40_fault_42 (by decide) (fun c8 => ?_) (fun c8 => ?_)
        · replace hf := (if_pos (show q7.1 ≤ (255 : Int32) from c8)).symm.trans hf
          refine w_aload_n dX40_fault_47 rfl rfl ?_
          refine w_iconst dX40_fault_48 (v := 0) (by decide) ?_
          refine x_cnI hf (e_stS (Yc := YX40_words) (av := [.ref p0, .int (0 : Int32)]) (st := []) dX40_fault_49 q4919 mX40_words) mX40_words.2.2.1 mX40_words.2.2.2.2.1 (Nat.le_of_ble_eq_true rfl) (Nat.le_of_ble_eq_true rfl) (fun q hq => pX40_words (by omega) hq) (fun q9 hf => ?_)
          refine w_iconst dX40_fault_52 (v := 2) (by decide) ?_
          refine w_icmp_lt 68 dX40_fault_53 (by decide) (fun c10 => ?_) (fun c10 => ?_)
          · replace hf := (if_pos (show q9.1 < (2 : Int32) from c10)).symm.trans hf
            exact (pX40_fault_b68 hd hf).to ⟨rfl, rfl, trivial⟩
          · replace hf := (if_neg (show ¬ (q9.1 < (2 : Int32)) from c10)).symm.trans hf
            refine w_aload_n dX40_fault_56 rfl rfl ?_
            refine w_bipush dX40_fault_57 (v := 8) (by decide) ?_
            refine x_cnI hf (e_stS (Yc := YX40_words) (av := [.ref p0, .int (8 : Int32)]) (st := []) dX40_fault_59 q4919 mX40_words) mX40_words.2.2.1 mX40_words.2.2.2.2.1 (Nat.le_of_ble_eq_true rfl) (Nat.le_of_ble_eq_true rfl) (fun q hq => pX40_words (by omega) hq) (fun q11 hf => ?_)
            refine w_sipush dX40_fault_62 (v := 256) (by decide) ?_
            refine w_icmp_le 72 dX40_fault_65 (by decide) (fun c12 => ?_) (fun c12 => ?_)
            · replace hf := (if_pos (show q11.1 ≤ (256 : Int32) from c12)).symm.trans hf
              refine w_iconst dX40_fault_72 (v := 0) (by decide) ?_
              exact (pX40_fault_b73 hd hf).to ⟨rfl, rfl, trivial⟩
            · replace hf := (if_neg (show ¬ (q11.1 ≤ (256 : Int32)) from c12)).symm.trans hf
              exact (pX40_fault_b68 hd hf).to ⟨rfl, rfl, trivial⟩
        · replace hf := (if_neg (show ¬ (q7.1 ≤ (255 : Int32)) from c8)).symm.trans hf
          exact (pX40_fault_b45 hd hf).to trivial
    · replace hf := (if_neg (show ¬ (¬ q2.1 = 0) from (fun z => z c3))).symm.trans hf
      refine w_iconst dX40_fault_17 (v := 1) (by decide) ?_
      cases hf
      exact w_iret dX40_fault_18 rfl rfl rfl
  · replace hf := (if_neg (show ¬ (p1 ≤ (8192 : Int32)) from c1)).symm.trans hf
    refine w_iconst dX40_fault_7 (v := 4) (by decide) ?_
    cases hf
    exact w_iret dX40_fault_8 rfl rfl rfl
abbrev cX40_init : ByteArray := prog_41_method_1_code
def yX40_init : MethodName := ⟨RX40, "<init>", "()V"⟩
def YX40_init : eY := (yX40_init, cX40_init, 1, none, [])
theorem mX40_init : e_mi YX40_init 0 := ⟨q4973, rfl, rfl, q4974, by decide, by decide +kernel, (e_sig (by decide +kernel))⟩
theorem dX40_init_0 : decode cX40_init 0 = .ok (.aload_n 0, 1) := dc_42 (by decide +kernel)
theorem dX40_init_1 : decode cX40_init 1 = .ok (.invokespecial 3, 3) := dc_183 (a := 0) (b := 3) (n := 3) (by decide +kernel)
theorem dX40_init_4 : decode cX40_init 4 = .ok (.aload_n 0, 1) := dc_42 (by decide +kernel)
theorem dX40_init_5 : decode cX40_init 5 = .ok (.sipush 8192, 3) := dc_17 (a := 32) (b := 0) (v := 8192) (by decide +kernel)
theorem dX40_init_8 : decode cX40_init 8 = .ok (.newarray .byte, 2) := dc_188_8 (by decide +kernel)
theorem dX40_init_10 : decode cX40_init 10 = .ok (.putfield 9, 3) := dc_181 (a := 0) (b := 9) (n := 9) (by decide +kernel)
theorem dX40_init_13 : decode cX40_init 13 = .ok (.aload_n 0, 1) := dc_42 (by decide +kernel)
theorem dX40_init_14 : decode cX40_init 14 = .ok (.sipush 1100, 3) := dc_17 (a := 4) (b := 76) (v := 1100) (by decide +kernel)
theorem dX40_init_17 : decode cX40_init 17 = .ok (.newarray .int, 2) := dc_188_10 (by decide +kernel)
theorem dX40_init_19 : decode cX40_init 19 = .ok (.putfield 15, 3) := dc_181 (a := 0) (b := 15) (n := 15) (by decide +kernel)
theorem dX40_init_22 : decode cX40_init 22 = .ok (.aload_n 0, 1) := dc_42 (by decide +kernel)
theorem dX40_init_23 : decode cX40_init 23 = .ok (.sipush 1100, 3) := dc_17 (a := 4) (b := 76) (v := 1100) (by decide +kernel)
theorem dX40_init_26 : decode cX40_init 26 = .ok (.newarray .int, 2) := dc_188_10 (by decide +kernel)
theorem dX40_init_28 : decode cX40_init 28 = .ok (.putfield 19, 3) := dc_181 (a := 0) (b := 19) (n := 19) (by decide +kernel)
theorem dX40_init_31 : decode cX40_init 31 = .ok (.return_, 1) := dc_177 (by decide +kernel)
theorem SX40_15 {w : eW} {d : Nat} {Y : eY} {pc : Nat} {ls : eL} {st : List Value} {h : eH} {Q : eO → eH → Prop} {a : Nat} {h' : eH} {v : Value} (hf : p_F 42 h a 1 v = some h') (hd : decode Y.2.1 pc = .ok (.putfield 15, 3)) (hY : Y.1.cls = RX40) (hI : Y.1.name = "<init>") (hn : narrow (tyX40 1) v = v) (hfit : fits (tyX40 1) v = true) (kk : wp w d Y (pc + 3) ls st h' Q) : wp w d Y pc ls (v :: .ref a :: st) h Q := x_pF (ci := 42) (k := 1) hf hd rfl (by decide) (by rw [hY]; exact q4977) rfl hI (by rw [hY]; rfl) (tyX40_ok 1 (by decide)) hn hfit kk
theorem SX40_19 {w : eW} {d : Nat} {Y : eY} {pc : Nat} {ls : eL} {st : List Value} {h : eH} {Q : eO → eH → Prop} {a : Nat} {h' : eH} {v : Value} (hf : p_F 42 h a 2 v = some h') (hd : decode Y.2.1 pc = .ok (.putfield 19, 3)) (hY : Y.1.cls = RX40) (hI : Y.1.name = "<init>") (hn : narrow (tyX40 2) v = v) (hfit : fits (tyX40 2) v = true) (kk : wp w d Y (pc + 3) ls st h' Q) : wp w d Y pc ls (v :: .ref a :: st) h Q := x_pF (ci := 42) (k := 2) hf hd rfl (by decide) (by rw [hY]; exact q4979) rfl hI (by rw [hY]; rfl) (tyX40_ok 2 (by decide)) hn hfit kk
theorem SX40_9 {w : eW} {d : Nat} {Y : eY} {pc : Nat} {ls : eL} {st : List Value} {h : eH} {Q : eO → eH → Prop} {a : Nat} {h' : eH} {v : Value} (hf : p_F 42 h a 0 v = some h') (hd : decode Y.2.1 pc = .ok (.putfield 9, 3)) (hY : Y.1.cls = RX40) (hI : Y.1.name = "<init>") (hn : narrow (tyX40 0) v = v) (hfit : fits (tyX40 0) v = true) (kk : wp w d Y (pc + 3) ls st h' Q) : wp w d Y pc ls (v :: .ref a :: st) h Q := x_pF (ci := 42) (k := 0) hf hd rfl (by decide) (by rw [hY]; exact q4976) rfl hI (by rw [hY]; rfl) (tyX40_ok 0 (by decide)) hn hfit kk
def fX40_init (this : Nat) (h : eH) : Option (Unit × eH) :=
  (n_arr 102 322 (.int 0) h (8192 : Int32)).bind fun q1 =>
  (p_F 42 q1.2 this 0 (.ref q1.1)).bind fun h3 =>
  (n_arr 100 323 (.int 0) h3 (1100 : Int32)).bind fun q5 =>
  (p_F 42 q5.2 this 1 (.ref q5.1)).bind fun h7 =>
  (n_arr 100 324 (.int 0) h7 (1100 : Int32)).bind fun q9 =>
  (p_F 42 q9.2 this 2 (.ref q9.1)).bind fun h11 =>
  some ((), h11)
theorem pX40_init {w : eW} {d : Nat} (hd : 1 ≤ d) {this : Nat} {h : eH} {q} (hf : fX40_init this h = some q) : wm w d YX40_init [.ref this] h (e_is (e_rn c_V q)) := by
  obtain ⟨d, rfl⟩ : ∃ e, d = e + 1 := ⟨d - 1, by omega⟩
  show wp w (d + 1) YX40_init 0 [some (.ref this)] [] h _
  unfold fX40_init at hf
  refine w_aload_n dX40_init_0 rfl rfl ?_
  refine w_obj dX40_init_1 q4975 q490 q491 (by decide) ?_
  refine w_aload_n dX40_init_4 rfl rfl ?_
  refine w_sipush dX40_init_5 (v := 8192) (by decide) ?_
  obtain ⟨q1, b2, hf⟩ := Option.bind_eq_some_iff.mp hf
  refine x_newB (g := 322) b2 dX40_init_8 q507 ?_
  obtain ⟨h3, b4, hf⟩ := Option.bind_eq_some_iff.mp hf
  refine SX40_9 b4 dX40_init_10 rfl rfl rfl rfl ?_
  refine w_aload_n dX40_init_13 rfl rfl ?_
  refine w_sipush dX40_init_14 (v := 1100) (by decide) ?_
  obtain ⟨q5, b6, hf⟩ := Option.bind_eq_some_iff.mp hf
  refine x_newI (g := 323) b6 dX40_init_17 q582 ?_
  obtain ⟨h7, b8, hf⟩ := Option.bind_eq_some_iff.mp hf
  refine SX40_15 b8 dX40_init_19 rfl rfl rfl rfl ?_
  refine w_aload_n dX40_init_22 rfl rfl ?_
  refine w_sipush dX40_init_23 (v := 1100) (by decide) ?_
  obtain ⟨q9, b10, hf⟩ := Option.bind_eq_some_iff.mp hf
  refine x_newI (g := 324) b10 dX40_init_26 q582 ?_
  obtain ⟨h11, b12, hf⟩ := Option.bind_eq_some_iff.mp hf
  refine SX40_19 b12 dX40_init_28 rfl rfl rfl rfl ?_
  cases hf
  exact w_vret dX40_init_31 rfl rfl
abbrev cX40_take : ByteArray := prog_41_method_2_code
def yX40_take : MethodName := ⟨RX40, "take", "([BI)V"⟩
def YX40_take : eY := (yX40_take, cX40_take, 4, none, [])
theorem mX40_take : e_mv YX40_take RX40 2 := ⟨q4993, q4994, q4995, by decide, by decide +kernel, (e_sig (by decide +kernel))⟩
theorem dX40_take_0 : decode cX40_take 0 = .ok (.iconst 0, 1) := dc_3 (by decide +kernel)
theorem dX40_take_1 : decode cX40_take 1 = .ok (.istore_n 3, 1) := dc_62 (by decide +kernel)
theorem dX40_take_2 : decode cX40_take 2 = .ok (.iload_n 3, 1) := dc_29 (by decide +kernel)
theorem dX40_take_3 : decode cX40_take 3 = .ok (.iload_n 2, 1) := dc_28 (by decide +kernel)
theorem dX40_take_4 : decode cX40_take 4 = .ok (.if_icmp .ge 18, 3) := dc_162 (a := 0) (b := 18) (v := 18) (by decide +kernel)
theorem dX40_take_7 : decode cX40_take 7 = .ok (.aload_n 0, 1) := dc_42 (by decide +kernel)
theorem dX40_take_8 : decode cX40_take 8 = .ok (.getfield 9, 3) := dc_180 (a := 0) (b := 9) (n := 9) (by decide +kernel)
theorem dX40_take_11 : decode cX40_take 11 = .ok (.iload_n 3, 1) := dc_29 (by decide +kernel)
theorem dX40_take_12 : decode cX40_take 12 = .ok (.aload_n 1, 1) := dc_43 (by decide +kernel)
theorem dX40_take_13 : decode cX40_take 13 = .ok (.iload_n 3, 1) := dc_29 (by decide +kernel)
theorem dX40_take_14 : decode cX40_take 14 = .ok (.baload, 1) := dc_51 (by decide +kernel)
theorem dX40_take_15 : decode cX40_take 15 = .ok (.bastore, 1) := dc_84 (by decide +kernel)
theorem dX40_take_16 : decode cX40_take 16 = .ok (.iinc 3 1, 3) := dc_132 (a := 3) (b := 1) (v := 1) (by decide +kernel)
theorem dX40_take_19 : decode cX40_take 19 = .ok (.goto (-17), 3) := dc_167 (a := 255) (b := 239) (v := -17) (by decide +kernel)
theorem dX40_take_22 : decode cX40_take 22 = .ok (.return_, 1) := dc_177 (by decide +kernel)
def fX40_take_b2 (N : Nat) : Nat → Nat → Nat → Int32 → Int32 → eH → Option (Unit × eH)
  | 0, _, _, _, _, _ => none
  | n + 1, l0, l1, l2, l3, h =>
    if l2 ≤ l3 then
      some ((), h)
    else
      (g_A 42 h l0 0).bind fun a2 =>
      (r_I 102 h l1 l3).bind fun x4 =>
      (q_V 102 h a2 l3 (.int (x4).toInt8.toInt32)).bind fun h6 =>
      fX40_take_b2 N n l0 l1 l2 (l3 + (1 : Int32)) h6
theorem pX40_take_b2 {w : eW} {d : Nat} (hd : 0 ≤ d) {N : Nat} : ∀ (n : Nat) l0 l1 l2 l3 h q, fX40_take_b2 N n l0 l1 l2 l3 h = some q → wp w d YX40_take 2 [some (.ref l0), some (.ref l1), some (.int l2), some (.int l3)] [] h (e_is (e_rn c_V q)) := by
  intro n
  induction n with
  | zero => intro l0 l1 l2 l3 h q hf; simp [fX40_take_b2] at hf
  | succ n ih =>
    intro l0 l1 l2 l3 h q hf
    rw [fX40_take_b2] at hf
    refine w_iload_n dX40_take_2 rfl rfl ?_
    refine w_iload_n dX40_take_3 rfl rfl ?_
    refine w_icmp_ge 22 dX40_take_4 (by decide) (fun c1 => ?_) (fun c1 => ?_)
    · replace hf := (if_pos (show l2 ≤ l3 from c1)).symm.trans hf
      cases hf
      exact w_vret dX40_take_22 rfl rfl
    · replace hf := (if_neg (show ¬ (l2 ≤ l3) from c1)).symm.trans hf
      refine w_aload_n dX40_take_7 rfl rfl ?_
      obtain ⟨a2, b3, hf⟩ := Option.bind_eq_some_iff.mp hf
      refine GX40_9 b3 dX40_take_8 rfl ?_
      refine w_iload_n dX40_take_11 rfl rfl ?_
      refine w_aload_n dX40_take_12 rfl rfl ?_
      refine w_iload_n dX40_take_13 rfl rfl ?_
      obtain ⟨x4, b5, hf⟩ := Option.bind_eq_some_iff.mp hf
      refine x_rB b5 dX40_take_14 ?_
      obtain ⟨h6, b7, hf⟩ := Option.bind_eq_some_iff.mp hf
      refine x_qB b7 dX40_take_15 ?_
      refine w_iinc dX40_take_16 (v := (l3 + (1 : Int32))) rfl rfl (by decide) (ls' := [some (.ref l0), some (.ref l1), some (.int l2), some (.int (l3 + (1 : Int32)))]) rfl ?_
      refine w_goto 2 dX40_take_19 (by decide) ?_
      exact (ih _ _ _ _ _ _ hf).to ⟨rfl, rfl, rfl, rfl, trivial⟩
def fX40_take (N : Nat) (this : Nat) (p0 : Nat) (p1 : Int32) (h : eH) : Option (Unit × eH) :=
  fX40_take_b2 N N this p0 p1 (0 : Int32) h
theorem pX40_take {w : eW} {d : Nat} (hd : 0 ≤ d) {N : Nat} {this : Nat} {p0 : Nat} {p1 : Int32} {h : eH} {q} (hf : fX40_take N this p0 p1 h = some q) : wm w d YX40_take [.ref this, .ref p0, .int p1] h (e_is (e_rn c_V q)) := by
  show wp w d YX40_take 0 [some (.ref this), some (.ref p0), some (.int p1), none] [] h _
  unfold fX40_take at hf
  refine w_iconst dX40_take_0 (v := 0) (by decide) ?_
  refine w_istore_n dX40_take_1 rfl (by decide) (ls' := [some (.ref this), some (.ref p0), some (.int p1), some (.int (0 : Int32))]) rfl ?_
  exact (pX40_take_b2 hd N _ _ _ _ _ _ hf).to ⟨rfl, rfl, rfl, rfl, trivial⟩
abbrev cX36_spaces : ByteArray := prog_40_method_6_code
def yX36_spaces : MethodName := ⟨RX36, "spaces", "()V"⟩
def YX36_spaces : eY := (yX36_spaces, cX36_spaces, 1, none, [])
theorem mX36_spaces : e_mv YX36_spaces RX36 0 := ⟨q5006, qs222, q5007, by decide, by decide +kernel, (e_sig (by decide +kernel))⟩
theorem dX36_spaces_0 : decode cX36_spaces 0 = .ok (.aload_n 0, 1) := dc_42 (by decide +kernel)
theorem dX36_spaces_1 : decode cX36_spaces 1 = .ok (.getfield 71, 3) := dc_180 (a := 0) (b := 71) (n := 71) (by decide +kernel)
theorem dX36_spaces_4 : decode cX36_spaces 4 = .ok (.aload_n 0, 1) := dc_42 (by decide +kernel)
theorem dX36_spaces_5 : decode cX36_spaces 5 = .ok (.getfield 74, 3) := dc_180 (a := 0) (b := 74) (n := 74) (by decide +kernel)
theorem dX36_spaces_8 : decode cX36_spaces 8 = .ok (.if_icmp .ge 30, 3) := dc_162 (a := 0) (b := 30) (v := 30) (by decide +kernel)
theorem dX36_spaces_11 : decode cX36_spaces 11 = .ok (.aload_n 0, 1) := dc_42 (by decide +kernel)
theorem dX36_spaces_12 : decode cX36_spaces 12 = .ok (.getfield 21, 3) := dc_180 (a := 0) (b := 21) (n := 21) (by decide +kernel)
theorem dX36_spaces_15 : decode cX36_spaces 15 = .ok (.aload_n 0, 1) := dc_42 (by decide +kernel)
theorem dX36_spaces_16 : decode cX36_spaces 16 = .ok (.getfield 71, 3) := dc_180 (a := 0) (b := 71) (n := 71) (by decide +kernel)
theorem dX36_spaces_19 : decode cX36_spaces 19 = .ok (.iaload, 1) := dc_46 (by decide +kernel)
theorem dX36_spaces_20 : decode cX36_spaces 20 = .ok (.bipush 32, 2) := dc_16 (a := 32) (v := 32) (by decide +kernel)
theorem dX36_spaces_22 : decode cX36_spaces 22 = .ok (.if_icmp .ne 16, 3) := dc_160 (a := 0) (b := 16) (v := 16) (by decide +kernel)
theorem dX36_spaces_25 : decode cX36_spaces 25 = .ok (.aload_n 0, 1) := dc_42 (by decide +kernel)
theorem dX36_spaces_26 : decode cX36_spaces 26 = .ok (.dup, 1) := dc_89 (by decide +kernel)
theorem dX36_spaces_27 : decode cX36_spaces 27 = .ok (.getfield 71, 3) := dc_180 (a := 0) (b := 71) (n := 71) (by decide +kernel)
theorem dX36_spaces_30 : decode cX36_spaces 30 = .ok (.iconst 1, 1) := dc_4 (by decide +kernel)
theorem dX36_spaces_31 : decode cX36_spaces 31 = .ok (.iadd, 1) := dc_96 (by decide +kernel)
theorem dX36_spaces_32 : decode cX36_spaces 32 = .ok (.putfield 71, 3) := dc_181 (a := 0) (b := 71) (n := 71) (by decide +kernel)
theorem dX36_spaces_35 : decode cX36_spaces 35 = .ok (.goto (-35), 3) := dc_167 (a := 255) (b := 221) (v := -35) (by decide +kernel)
theorem dX36_spaces_38 : decode cX36_spaces 38 = .ok (.return_, 1) := dc_177 (by decide +kernel)
theorem GX36_21 {w : eW} {d : Nat} {Y : eY} {pc : Nat} {ls : eL} {st : List Value} {h : eH} {Q : eO → eH → Prop} {a : Nat} {x : Nat} (hf : g_A 35 h a 4 = some x) (hd : decode Y.2.1 pc = .ok (.getfield 21, 3)) (hY : Y.1.cls = RX36) (kk : wp w d Y (pc + 3) ls (.ref x :: st) h Q) : wp w d Y pc ls (.ref a :: st) h Q := x_gA (ci := 35) (k := 4) hf hd rfl (by decide) (by rw [hY]; exact q4136) kk
theorem GX36_71 {w : eW} {d : Nat} {Y : eY} {pc : Nat} {ls : eL} {st : List Value} {h : eH} {Q : eO → eH → Prop} {a : Nat} {x : Int32} (hf : g_I 35 h a 16 = some x) (hd : decode Y.2.1 pc = .ok (.getfield 71, 3)) (hY : Y.1.cls = RX36) (kk : wp w d Y (pc + 3) ls (.int x :: st) h Q) : wp w d Y pc ls (.ref a :: st) h Q := x_gI (ci := 35) (k := 16) hf hd rfl (by decide) (by rw [hY]; exact q4149) kk
theorem GX36_74 {w : eW} {d : Nat} {Y : eY} {pc : Nat} {ls : eL} {st : List Value} {h : eH} {Q : eO → eH → Prop} {a : Nat} {x : Int32} (hf : g_I 35 h a 3 = some x) (hd : decode Y.2.1 pc = .ok (.getfield 74, 3)) (hY : Y.1.cls = RX36) (kk : wp w d Y (pc + 3) ls (.int x :: st) h Q) : wp w d Y pc ls (.ref a :: st) h Q := x_gI (ci := 35) (k := 3) hf hd rfl (by decide) (by rw [hY]; exact q4134) kk
theorem SX36_71 {w : eW} {d : Nat} {Y : eY} {pc : Nat} {ls : eL} {st : List Value} {h : eH} {Q : eO → eH → Prop} {a : Nat} {h' : eH} {x : Int32} (hf : p_V 35 h a 16 (.int x) = some h') (hd : decode Y.2.1 pc = .ok (.putfield 71, 3)) (hY : Y.1.cls = RX36) (kk : wp w d Y (pc + 3) ls st h' Q) : wp w d Y pc ls (.int x :: .ref a :: st) h Q := x_pI (ci := 35) (k := 16) hf hd rfl (by decide) (by rw [hY]; exact q4149) rfl rfl kk
def fX36_spaces_b38 (N : Nat)  (h : eH) : Option (Unit × eH) :=
  some ((), h)
theorem pX36_spaces_b38 {w : eW} {d : Nat} (hd : 0 ≤ d) {N : Nat}  {h : eH} {q} (hf : fX36_spaces_b38 N h = some q) : wp w d YX36_spaces 38 [none] [] h (e_is (e_rn c_V q)) := by
  unfold fX36_spaces_b38 at hf
  cases hf
  exact w_vret dX36_spaces_38 rfl rfl
def fX36_spaces_b0 (N : Nat) : Nat → Nat → eH → Option (Unit × eH)
  | 0, _, _ => none
  | n + 1, l0, h =>
    (g_I 35 h l0 16).bind fun x1 =>
    (g_I 35 h l0 3).bind fun x3 =>
    if x3 ≤ x1 then
      fX36_spaces_b38 N h
    else
      (g_A 35 h l0 4).bind fun a6 =>
      (g_I 35 h l0 16).bind fun x8 =>
      (r_I 100 h a6 x8).bind fun x10 =>
      if ¬ x10 = (32 : Int32) then
        fX36_spaces_b38 N h
      else
        (g_I 35 h l0 16).bind fun x13 =>
        (p_V 35 h l0 16 (.int (x13 + (1 : Int32)))).bind fun h15 =>
        fX36_spaces_b0 N n l0 h15
theorem pX36_spaces_b0 {w : eW} {d : Nat} (hd : 0 ≤ d) {N : Nat} : ∀ (n : Nat) l0 h q, fX36_spaces_b0 N n l0 h = some q → wp w d YX36_spaces 0 [some (.ref l0)] [] h (e_is (e_rn c_V q)) := by
  intro n
  induction n with
  | zero => intro l0 h q hf; simp [fX36_spaces_b0] at hf
  | succ n ih =>
    intro l0 h q hf
    rw [fX36_spaces_b0] at hf
    refine w_aload_n dX36_spaces_0 rfl rfl ?_
    obtain ⟨x1, b2, hf⟩ := Option.bind_eq_some_iff.mp hf
    refine GX36_71 b2 dX36_spaces_1 rfl ?_
    refine w_aload_n dX36_spaces_4 rfl rfl ?_
    obtain ⟨x3, b4, hf⟩ := Option.bind_eq_some_iff.mp hf
    refine GX36_74 b4 dX36_spaces_5 rfl ?_
    refine w_icmp_ge 38 dX36_spaces_8 (by decide) (fun c5 => ?_) (fun c5 => ?_)
    · replace hf := (if_pos (show x3 ≤ x1 from c5)).symm.trans hf
      exact (pX36_spaces_b38 hd hf).to trivial
    · replace hf := (if_neg (show ¬ (x3 ≤ x1) from c5)).symm.trans hf
      refine w_aload_n dX36_spaces_11 rfl rfl ?_
      obtain ⟨a6, b7, hf⟩ := Option.bind_eq_some_iff.mp hf
      refine GX36_21 b7 dX36_spaces_12 rfl ?_
      refine w_aload_n dX36_spaces_15 rfl rfl ?_
      obtain ⟨x8, b9, hf⟩ := Option.bind_eq_some_iff.mp hf
      refine GX36_71 b9 dX36_spaces_16 rfl ?_
      obtain ⟨x10, b11, hf⟩ := Option.bind_eq_some_iff.mp hf
      refine x_rI b11 dX36_spaces_19 ?_
      refine w_bipush dX36_spaces_20 (v := 32) (by decide) ?_
      refine w_icmp_ne 38 dX36_spaces_22 (by decide) (fun c12 => ?_) (fun c12 => ?_)
      · replace hf := (if_pos (show ¬ x10 = (32 : Int32) from c12)).symm.trans hf
        exact (pX36_spaces_b38 hd hf).to trivial
      · replace hf := (if_neg (show ¬ (¬ x10 = (32 : Int32)) from (fun z => z c12))).symm.trans hf
        refine w_aload_n dX36_spaces_25 rfl rfl ?_
        refine w_dup dX36_spaces_26 rfl ?_
        obtain ⟨x13, b14, hf⟩ := Option.bind_eq_some_iff.mp hf
        refine GX36_71 b14 dX36_spaces_27 rfl ?_
        refine w_iconst dX36_spaces_30 (v := 1) (by decide) ?_
        refine w_iadd dX36_spaces_31 ?_
        obtain ⟨h15, b16, hf⟩ := Option.bind_eq_some_iff.mp hf
        refine SX36_71 b16 dX36_spaces_32 rfl ?_
        refine w_goto 0 dX36_spaces_35 (by decide) ?_
        exact (ih _ _ _ hf).to ⟨rfl, trivial⟩
def fX36_spaces (N : Nat) (this : Nat) (h : eH) : Option (Unit × eH) :=
  fX36_spaces_b0 N N this h
theorem pX36_spaces {w : eW} {d : Nat} (hd : 0 ≤ d) {N : Nat} {this : Nat} {h : eH} {q} (hf : fX36_spaces N this h = some q) : wm w d YX36_spaces [.ref this] h (e_is (e_rn c_V q)) := by
  show wp w d YX36_spaces 0 [some (.ref this)] [] h _
  unfold fX36_spaces at hf
  exact (pX36_spaces_b0 hd N _ _ _ hf).to ⟨rfl, trivial⟩
abbrev cX36_look : ByteArray := prog_40_method_3_code
def yX36_look : MethodName := ⟨RX36, "look", "()I"⟩
def YX36_look : eY := (yX36_look, cX36_look, 1, (Option.some FieldType.int), [])
theorem mX36_look : e_mv YX36_look RX36 0 := ⟨q5014, qs224, q5015, by decide, by decide +kernel, (e_sig (by decide +kernel))⟩
theorem dX36_look_0 : decode cX36_look 0 = .ok (.aload_n 0, 1) := dc_42 (by decide +kernel)
theorem dX36_look_1 : decode cX36_look 1 = .ok (.getfield 71, 3) := dc_180 (a := 0) (b := 71) (n := 71) (by decide +kernel)
theorem dX36_look_4 : decode cX36_look 4 = .ok (.aload_n 0, 1) := dc_42 (by decide +kernel)
theorem dX36_look_5 : decode cX36_look 5 = .ok (.getfield 74, 3) := dc_180 (a := 0) (b := 74) (n := 74) (by decide +kernel)
theorem dX36_look_8 : decode cX36_look 8 = .ok (.if_icmp .ge 15, 3) := dc_162 (a := 0) (b := 15) (v := 15) (by decide +kernel)
theorem dX36_look_11 : decode cX36_look 11 = .ok (.aload_n 0, 1) := dc_42 (by decide +kernel)
theorem dX36_look_12 : decode cX36_look 12 = .ok (.getfield 21, 3) := dc_180 (a := 0) (b := 21) (n := 21) (by decide +kernel)
theorem dX36_look_15 : decode cX36_look 15 = .ok (.aload_n 0, 1) := dc_42 (by decide +kernel)
theorem dX36_look_16 : decode cX36_look 16 = .ok (.getfield 71, 3) := dc_180 (a := 0) (b := 71) (n := 71) (by decide +kernel)
theorem dX36_look_19 : decode cX36_look 19 = .ok (.iaload, 1) := dc_46 (by decide +kernel)
theorem dX36_look_20 : decode cX36_look 20 = .ok (.goto 4, 3) := dc_167 (a := 0) (b := 4) (v := 4) (by decide +kernel)
theorem dX36_look_23 : decode cX36_look 23 = .ok (.iconst 0, 1) := dc_3 (by decide +kernel)
theorem dX36_look_24 : decode cX36_look 24 = .ok (.ireturn, 1) := dc_172 (by decide +kernel)
def fX36_look_b24 (s0 : Int32) (h : eH) : Option (Int32 × eH) :=
  some (s0, h)
theorem pX36_look_b24 {w : eW} {d : Nat} (hd : 0 ≤ d) {s0 : Int32} {h : eH} {q} (hf : fX36_look_b24 s0 h = some q) : wp w d YX36_look 24 [none] [.int s0] h (e_is (e_rn c_I q)) := by
  unfold fX36_look_b24 at hf
  cases hf
  exact w_iret dX36_look_24 rfl rfl rfl
def fX36_look (this : Nat) (h : eH) : Option (Int32 × eH) :=
  (g_I 35 h this 16).bind fun x1 =>
  (g_I 35 h this 3).bind fun x3 =>
  if x3 ≤ x1 then
    fX36_look_b24 (0 : Int32) h
  else
    (g_A 35 h this 4).bind fun a6 =>
    (g_I 35 h this 16).bind fun x8 =>
    (r_I 100 h a6 x8).bind fun x10 =>
    fX36_look_b24 x10 h
theorem pX36_look {w : eW} {d : Nat} (hd : 0 ≤ d) {this : Nat} {h : eH} {q} (hf : fX36_look this h = some q) : wm w d YX36_look [.ref this] h (e_is (e_rn c_I q)) := by
  show wp w d YX36_look 0 [some (.ref this)] [] h _
  unfold fX36_look at hf
  refine w_aload_n dX36_look_0 rfl rfl ?_
  obtain ⟨x1, b2, hf⟩ := Option.bind_eq_some_iff.mp hf
  refine GX36_71 b2 dX36_look_1 rfl ?_
  refine w_aload_n dX36_look_4 rfl rfl ?_
  obtain ⟨x3, b4, hf⟩ := Option.bind_eq_some_iff.mp hf
  refine GX36_74 b4 dX36_look_5 rfl ?_
  refine w_icmp_ge 23 dX36_look_8 (by decide) (fun c5 => ?_) (fun c5 => ?_)
  · replace hf := (if_pos (show x3 ≤ x1 from c5)).symm.trans hf
    refine w_iconst dX36_look_23 (v := 0) (by decide) ?_
    exact (pX36_look_b24 hd hf).to trivial
  · replace hf := (if_neg (show ¬ (x3 ≤ x1) from c5)).symm.trans hf
    refine w_aload_n dX36_look_11 rfl rfl ?_
    obtain ⟨a6, b7, hf⟩ := Option.bind_eq_some_iff.mp hf
    refine GX36_21 b7 dX36_look_12 rfl ?_
    refine w_aload_n dX36_look_15 rfl rfl ?_
    obtain ⟨x8, b9, hf⟩ := Option.bind_eq_some_iff.mp hf
    refine GX36_71 b9 dX36_look_16 rfl ?_
    obtain ⟨x10, b11, hf⟩ := Option.bind_eq_some_iff.mp hf
    refine x_rI b11 dX36_look_19 ?_
    refine w_goto 24 dX36_look_20 (by decide) ?_
    exact (pX36_look_b24 hd hf).to trivial
abbrev cX36_isDigit : ByteArray := prog_40_method_2_code
def yX36_isDigit : MethodName := ⟨RX36, "isDigit", "(I)Z"⟩
def YX36_isDigit : eY := (yX36_isDigit, cX36_isDigit, 1, (Option.some FieldType.boolean), [])
theorem mX36_isDigit : e_ms YX36_isDigit 1 := ⟨q5017, q467, q5018, by decide, by decide +kernel, (e_sig (by decide +kernel))⟩
theorem dX36_isDigit_0 : decode cX36_isDigit 0 = .ok (.iload_n 0, 1) := dc_26 (by decide +kernel)
theorem dX36_isDigit_1 : decode cX36_isDigit 1 = .ok (.bipush 48, 2) := dc_16 (a := 48) (v := 48) (by decide +kernel)
theorem dX36_isDigit_3 : decode cX36_isDigit 3 = .ok (.if_icmp .lt 13, 3) := dc_161 (a := 0) (b := 13) (v := 13) (by decide +kernel)
theorem dX36_isDigit_6 : decode cX36_isDigit 6 = .ok (.iload_n 0, 1) := dc_26 (by decide +kernel)
theorem dX36_isDigit_7 : decode cX36_isDigit 7 = .ok (.bipush 57, 2) := dc_16 (a := 57) (v := 57) (by decide +kernel)
theorem dX36_isDigit_9 : decode cX36_isDigit 9 = .ok (.if_icmp .gt 7, 3) := dc_163 (a := 0) (b := 7) (v := 7) (by decide +kernel)
theorem dX36_isDigit_12 : decode cX36_isDigit 12 = .ok (.iconst 1, 1) := dc_4 (by decide +kernel)
theorem dX36_isDigit_13 : decode cX36_isDigit 13 = .ok (.goto 4, 3) := dc_167 (a := 0) (b := 4) (v := 4) (by decide +kernel)
theorem dX36_isDigit_16 : decode cX36_isDigit 16 = .ok (.iconst 0, 1) := dc_3 (by decide +kernel)
theorem dX36_isDigit_17 : decode cX36_isDigit 17 = .ok (.ireturn, 1) := dc_172 (by decide +kernel)
def fX36_isDigit_b17 (s0 : Int32) (h : eH) : Option (Int32 × eH) :=
  z_r s0 (s0, h)
theorem pX36_isDigit_b17 {w : eW} {d : Nat} (hd : 0 ≤ d) {s0 : Int32} {h : eH} {q} (hf : fX36_isDigit_b17 s0 h = some q) : wp w d YX36_isDigit 17 [none] [.int s0] h (e_is (e_rn c_I q)) := by
  unfold fX36_isDigit_b17 at hf
  obtain ⟨b1, rfl⟩ := z_r_some hf
  exact w_iret dX36_isDigit_17 rfl b1 rfl
def fX36_isDigit_b16  (h : eH) : Option (Int32 × eH) :=
  fX36_isDigit_b17 (0 : Int32) h
theorem pX36_isDigit_b16 {w : eW} {d : Nat} (hd : 0 ≤ d)  {h : eH} {q} (hf : fX36_isDigit_b16  h = some q) : wp w d YX36_isDigit 16 [none] [] h (e_is (e_rn c_I q)) := by
  unfold fX36_isDigit_b16 at hf
  refine w_iconst dX36_isDigit_16 (v := 0) (by decide) ?_
  exact (pX36_isDigit_b17 hd hf).to trivial
def fX36_isDigit (p0 : Int32) (h : eH) : Option (Int32 × eH) :=
  if p0 < (48 : Int32) then
    fX36_isDigit_b16 h
  else
    if (57 : Int32) < p0 then
      fX36_isDigit_b16 h
    else
      fX36_isDigit_b17 (1 : Int32) h
theorem pX36_isDigit {w : eW} {d : Nat} (hd : 0 ≤ d) {p0 : Int32} {h : eH} {q} (hf : fX36_isDigit p0 h = some q) : wm w d YX36_isDigit [.int p0] h (e_is (e_rn c_I q)) := by
  show wp w d YX36_isDigit 0 [some (.int p0)] [] h _
  unfold fX36_isDigit at hf
  refine w_iload_n dX36_isDigit_0 rfl rfl ?_
  refine w_bipush dX36_isDigit_1 (v := 48) (by decide) ?_
  refine w_icmp_lt 16 dX36_isDigit_3 (by decide) (fun c1 => ?_) (fun c1 => ?_)
  · replace hf := (if_pos (show p0 < (48 : Int32) from c1)).symm.trans hf
    exact (pX36_isDigit_b16 hd hf).to trivial
  · replace hf := (if_neg (show ¬ (p0 < (48 : Int32)) from c1)).symm.trans hf
    refine w_iload_n dX36_isDigit_6 rfl rfl ?_
    refine w_bipush dX36_isDigit_7 (v := 57) (by decide) ?_
    refine w_icmp_gt 16 dX36_isDigit_9 (by decide) (fun c2 => ?_) (fun c2 => ?_)
    · replace hf := (if_pos (show (57 : Int32) < p0 from c2)).symm.trans hf
      exact (pX36_isDigit_b16 hd hf).to trivial
    · replace hf := (if_neg (show ¬ ((57 : Int32) < p0) from c2)).symm.trans hf
      refine w_iconst dX36_isDigit_12 (v := 1) (by decide) ?_
      refine w_goto 17 dX36_isDigit_13 (by decide) ?_
      exact (pX36_isDigit_b17 hd hf).to trivial
abbrev cX36_isLetter : ByteArray := prog_40_method_4_code
def yX36_isLetter : MethodName := ⟨RX36, "isLetter", "()Z"⟩
def YX36_isLetter : eY := (yX36_isLetter, cX36_isLetter, 1, (Option.some FieldType.boolean), [])
theorem mX36_isLetter : e_mv YX36_isLetter RX36 0 := ⟨q5021, qs225, q5022, by decide, by decide +kernel, (e_sig (by decide +kernel))⟩
theorem dX36_isLetter_0 : decode cX36_isLetter 0 = .ok (.aload_n 0, 1) := dc_42 (by decide +kernel)
theorem dX36_isLetter_1 : decode cX36_isLetter 1 = .ok (.getfield 71, 3) := dc_180 (a := 0) (b := 71) (n := 71) (by decide +kernel)
theorem dX36_isLetter_4 : decode cX36_isLetter 4 = .ok (.aload_n 0, 1) := dc_42 (by decide +kernel)
theorem dX36_isLetter_5 : decode cX36_isLetter 5 = .ok (.getfield 74, 3) := dc_180 (a := 0) (b := 74) (n := 74) (by decide +kernel)
theorem dX36_isLetter_8 : decode cX36_isLetter 8 = .ok (.if_icmp .ge 24, 3) := dc_162 (a := 0) (b := 24) (v := 24) (by decide +kernel)
theorem dX36_isLetter_11 : decode cX36_isLetter 11 = .ok (.aload_n 0, 1) := dc_42 (by decide +kernel)
theorem dX36_isLetter_12 : decode cX36_isLetter 12 = .ok (.getfield 7, 3) := dc_180 (a := 0) (b := 7) (n := 7) (by decide +kernel)
theorem dX36_isLetter_15 : decode cX36_isLetter 15 = .ok (.aload_n 0, 1) := dc_42 (by decide +kernel)
theorem dX36_isLetter_16 : decode cX36_isLetter 16 = .ok (.getfield 21, 3) := dc_180 (a := 0) (b := 21) (n := 21) (by decide +kernel)
theorem dX36_isLetter_19 : decode cX36_isLetter 19 = .ok (.aload_n 0, 1) := dc_42 (by decide +kernel)
theorem dX36_isLetter_20 : decode cX36_isLetter 20 = .ok (.getfield 71, 3) := dc_180 (a := 0) (b := 71) (n := 71) (by decide +kernel)
theorem dX36_isLetter_23 : decode cX36_isLetter 23 = .ok (.iaload, 1) := dc_46 (by decide +kernel)
theorem dX36_isLetter_24 : decode cX36_isLetter 24 = .ok (.iaload, 1) := dc_46 (by decide +kernel)
theorem dX36_isLetter_25 : decode cX36_isLetter 25 = .ok (.ifCond .le 7, 3) := dc_158 (a := 0) (b := 7) (v := 7) (by decide +kernel)
theorem dX36_isLetter_28 : decode cX36_isLetter 28 = .ok (.iconst 1, 1) := dc_4 (by decide +kernel)
theorem dX36_isLetter_29 : decode cX36_isLetter 29 = .ok (.goto 4, 3) := dc_167 (a := 0) (b := 4) (v := 4) (by decide +kernel)
theorem dX36_isLetter_32 : decode cX36_isLetter 32 = .ok (.iconst 0, 1) := dc_3 (by decide +kernel)
theorem dX36_isLetter_33 : decode cX36_isLetter 33 = .ok (.ireturn, 1) := dc_172 (by decide +kernel)
def fX36_isLetter_b33 (s0 : Int32) (h : eH) : Option (Int32 × eH) :=
  z_r s0 (s0, h)
theorem pX36_isLetter_b33 {w : eW} {d : Nat} (hd : 0 ≤ d) {s0 : Int32} {h : eH} {q} (hf : fX36_isLetter_b33 s0 h = some q) : wp w d YX36_isLetter 33 [none] [.int s0] h (e_is (e_rn c_I q)) := by
  unfold fX36_isLetter_b33 at hf
  obtain ⟨b1, rfl⟩ := z_r_some hf
  exact w_iret dX36_isLetter_33 rfl b1 rfl
def fX36_isLetter_b32  (h : eH) : Option (Int32 × eH) :=
  fX36_isLetter_b33 (0 : Int32) h
theorem pX36_isLetter_b32 {w : eW} {d : Nat} (hd : 0 ≤ d)  {h : eH} {q} (hf : fX36_isLetter_b32  h = some q) : wp w d YX36_isLetter 32 [none] [] h (e_is (e_rn c_I q)) := by
  unfold fX36_isLetter_b32 at hf
  refine w_iconst dX36_isLetter_32 (v := 0) (by decide) ?_
  exact (pX36_isLetter_b33 hd hf).to trivial
def fX36_isLetter (this : Nat) (h : eH) : Option (Int32 × eH) :=
  (g_I 35 h this 16).bind fun x1 =>
  (g_I 35 h this 3).bind fun x3 =>
  if x3 ≤ x1 then
    fX36_isLetter_b32 h
  else
    (g_A 35 h this 0).bind fun a6 =>
    (g_A 35 h this 4).bind fun a8 =>
    (g_I 35 h this 16).bind fun x10 =>
    (r_I 100 h a8 x10).bind fun x12 =>
    (r_I 100 h a6 x12).bind fun x14 =>
    if x14 ≤ 0 then
      fX36_isLetter_b32 h
    else
      fX36_isLetter_b33 (1 : Int32) h
theorem pX36_isLetter {w : eW} {d : Nat} (hd : 0 ≤ d) {this : Nat} {h : eH} {q} (hf : fX36_isLetter this h = some q) : wm w d YX36_isLetter [.ref this] h (e_is (e_rn c_I q)) := by
  show wp w d YX36_isLetter 0 [some (.ref this)] [] h _
  unfold fX36_isLetter at hf
  refine w_aload_n dX36_isLetter_0 rfl rfl ?_
  obtain ⟨x1, b2, hf⟩ := Option.bind_eq_some_iff.mp hf
  refine GX36_71 b2 dX36_isLetter_1 rfl ?_
  refine w_aload_n dX36_isLetter_4 rfl rfl ?_
  obtain ⟨x3, b4, hf⟩ := Option.bind_eq_some_iff.mp hf
  refine GX36_74 b4 dX36_isLetter_5 rfl ?_
  refine w_icmp_ge 32 dX36_isLetter_8 (by decide) (fun c5 => ?_) (fun c5 => ?_)
  · replace hf := (if_pos (show x3 ≤ x1 from c5)).symm.trans hf
    exact (pX36_isLetter_b32 hd hf).to trivial
  · replace hf := (if_neg (show ¬ (x3 ≤ x1) from c5)).symm.trans hf
    refine w_aload_n dX36_isLetter_11 rfl rfl ?_
    obtain ⟨a6, b7, hf⟩ := Option.bind_eq_some_iff.mp hf
    refine GX36_7 b7 dX36_isLetter_12 rfl ?_
    refine w_aload_n dX36_isLetter_15 rfl rfl ?_
    obtain ⟨a8, b9, hf⟩ := Option.bind_eq_some_iff.mp hf
    refine GX36_21 b9 dX36_isLetter_16 rfl ?_
    refine w_aload_n dX36_isLetter_19 rfl rfl ?_
    obtain ⟨x10, b11, hf⟩ := Option.bind_eq_some_iff.mp hf
    refine GX36_71 b11 dX36_isLetter_20 rfl ?_
    obtain ⟨x12, b13, hf⟩ := Option.bind_eq_some_iff.mp hf
    refine x_rI b13 dX36_isLetter_23 ?_
    obtain ⟨x14, b15, hf⟩ := Option.bind_eq_some_iff.mp hf
    refine x_rI b15 dX36_isLetter_24 ?_
    refine w_if_le 32 dX36_isLetter_25 (by decide) (fun c16 => ?_) (fun c16 => ?_)
    · replace hf := (if_pos (show x14 ≤ 0 from c16)).symm.trans hf
      exact (pX36_isLetter_b32 hd hf).to trivial
    · replace hf := (if_neg (show ¬ (x14 ≤ 0) from c16)).symm.trans hf
      refine w_iconst dX36_isLetter_28 (v := 1) (by decide) ?_
      refine w_goto 33 dX36_isLetter_29 (by decide) ?_
      exact (pX36_isLetter_b33 hd hf).to trivial
abbrev cX36_isOver : ByteArray := prog_40_method_5_code
def yX36_isOver : MethodName := ⟨RX36, "isOver", "()Z"⟩
def YX36_isOver : eY := (yX36_isOver, cX36_isOver, 1, (Option.some FieldType.boolean), [])
theorem mX36_isOver : e_mv YX36_isOver RX36 0 := ⟨q5025, qs226, q5026, by decide, by decide +kernel, (e_sig (by decide +kernel))⟩
theorem dX36_isOver_0 : decode cX36_isOver 0 = .ok (.aload_n 0, 1) := dc_42 (by decide +kernel)
theorem dX36_isOver_1 : decode cX36_isOver 1 = .ok (.getfield 71, 3) := dc_180 (a := 0) (b := 71) (n := 71) (by decide +kernel)
theorem dX36_isOver_4 : decode cX36_isOver 4 = .ok (.aload_n 0, 1) := dc_42 (by decide +kernel)
theorem dX36_isOver_5 : decode cX36_isOver 5 = .ok (.getfield 74, 3) := dc_180 (a := 0) (b := 74) (n := 74) (by decide +kernel)
theorem dX36_isOver_8 : decode cX36_isOver 8 = .ok (.if_icmp .eq 17, 3) := dc_159 (a := 0) (b := 17) (v := 17) (by decide +kernel)
theorem dX36_isOver_11 : decode cX36_isOver 11 = .ok (.aload_n 0, 1) := dc_42 (by decide +kernel)
theorem dX36_isOver_12 : decode cX36_isOver 12 = .ok (.getfield 21, 3) := dc_180 (a := 0) (b := 21) (n := 21) (by decide +kernel)
theorem dX36_isOver_15 : decode cX36_isOver 15 = .ok (.aload_n 0, 1) := dc_42 (by decide +kernel)
theorem dX36_isOver_16 : decode cX36_isOver 16 = .ok (.getfield 71, 3) := dc_180 (a := 0) (b := 71) (n := 71) (by decide +kernel)
theorem dX36_isOver_19 : decode cX36_isOver 19 = .ok (.iaload, 1) := dc_46 (by decide +kernel)
theorem dX36_isOver_20 : decode cX36_isOver 20 = .ok (.bipush 32, 2) := dc_16 (a := 32) (v := 32) (by decide +kernel)
theorem dX36_isOver_22 : decode cX36_isOver 22 = .ok (.if_icmp .ne 7, 3) := dc_160 (a := 0) (b := 7) (v := 7) (by decide +kernel)
theorem dX36_isOver_25 : decode cX36_isOver 25 = .ok (.iconst 1, 1) := dc_4 (by decide +kernel)
theorem dX36_isOver_26 : decode cX36_isOver 26 = .ok (.goto 4, 3) := dc_167 (a := 0) (b := 4) (v := 4) (by decide +kernel)
theorem dX36_isOver_29 : decode cX36_isOver 29 = .ok (.iconst 0, 1) := dc_3 (by decide +kernel)
theorem dX36_isOver_30 : decode cX36_isOver 30 = .ok (.ireturn, 1) := dc_172 (by decide +kernel)
def fX36_isOver_b30 (s0 : Int32) (h : eH) : Option (Int32 × eH) :=
  z_r s0 (s0, h)
theorem pX36_isOver_b30 {w : eW} {d : Nat} (hd : 0 ≤ d) {s0 : Int32} {h : eH} {q} (hf : fX36_isOver_b30 s0 h = some q) : wp w d YX36_isOver 30 [none] [.int s0] h (e_is (e_rn c_I q)) := by
  unfold fX36_isOver_b30 at hf
  obtain ⟨b1, rfl⟩ := z_r_some hf
  exact w_iret dX36_isOver_30 rfl b1 rfl
def fX36_isOver_b25  (h : eH) : Option (Int32 × eH) :=
  fX36_isOver_b30 (1 : Int32) h
theorem pX36_isOver_b25 {w : eW} {d : Nat} (hd : 0 ≤ d)  {h : eH} {q} (hf : fX36_isOver_b25  h = some q) : wp w d YX36_isOver 25 [none] [] h (e_is (e_rn c_I q)) := by
  unfold fX36_isOver_b25 at hf
  refine w_iconst dX36_isOver_25 (v := 1) (by decide) ?_
  refine w_goto 30 dX36_isOver_26 (by decide) ?_
  exact (pX36_isOver_b30 hd hf).to trivial
def fX36_isOver (this : Nat) (h : eH) : Option (Int32 × eH) :=
  (g_I 35 h this 16).bind fun x1 =>
  (g_I 35 h this 3).bind fun x3 =>
  if x1 = x3 then
    fX36_isOver_b25 h
  else
    (g_A 35 h this 4).bind fun a6 =>
    (g_I 35 h this 16).bind fun x8 =>
    (r_I 100 h a6 x8).bind fun x10 =>
    if ¬ x10 = (32 : Int32) then
      fX36_isOver_b30 (0 : Int32) h
    else
      fX36_isOver_b25 h
theorem pX36_isOver {w : eW} {d : Nat} (hd : 0 ≤ d) {this : Nat} {h : eH} {q} (hf : fX36_isOver this h = some q) : wm w d YX36_isOver [.ref this] h (e_is (e_rn c_I q)) := by
  show wp w d YX36_isOver 0 [some (.ref this)] [] h _
  unfold fX36_isOver at hf
  refine w_aload_n dX36_isOver_0 rfl rfl ?_
  obtain ⟨x1, b2, hf⟩ := Option.bind_eq_some_iff.mp hf
  refine GX36_71 b2 dX36_isOver_1 rfl ?_
  refine w_aload_n dX36_isOver_4 rfl rfl ?_
  obtain ⟨x3, b4, hf⟩ := Option.bind_eq_some_iff.mp hf
  refine GX36_74 b4 dX36_isOver_5 rfl ?_
  refine w_icmp_eq 25 dX36_isOver_8 (by decide) (fun c5 => ?_) (fun c5 => ?_)
  · replace hf := (if_pos (show x1 = x3 from c5)).symm.trans hf
    exact (pX36_isOver_b25 hd hf).to trivial
  · replace hf := (if_neg (show ¬ (x1 = x3) from c5)).symm.trans hf
    refine w_aload_n dX36_isOver_11 rfl rfl ?_
    obtain ⟨a6, b7, hf⟩ := Option.bind_eq_some_iff.mp hf
    refine GX36_21 b7 dX36_isOver_12 rfl ?_
    refine w_aload_n dX36_isOver_15 rfl rfl ?_
    obtain ⟨x8, b9, hf⟩ := Option.bind_eq_some_iff.mp hf
    refine GX36_71 b9 dX36_isOver_16 rfl ?_
    obtain ⟨x10, b11, hf⟩ := Option.bind_eq_some_iff.mp hf
    refine x_rI b11 dX36_isOver_19 ?_
    refine w_bipush dX36_isOver_20 (v := 32) (by decide) ?_
    refine w_icmp_ne 29 dX36_isOver_22 (by decide) (fun c12 => ?_) (fun c12 => ?_)
    · replace hf := (if_pos (show ¬ x10 = (32 : Int32) from c12)).symm.trans hf
      refine w_iconst dX36_isOver_29 (v := 0) (by decide) ?_
      exact (pX36_isOver_b30 hd hf).to trivial
    · replace hf := (if_neg (show ¬ (¬ x10 = (32 : Int32)) from (fun z => z c12))).symm.trans hf
      exact (pX36_isOver_b25 hd hf).to trivial
abbrev cX36_readPattern : ByteArray := prog_40_method_7_code
def yX36_readPattern : MethodName := ⟨RX36, "readPattern", "()Z"⟩
def YX36_readPattern : eY := (yX36_readPattern, cX36_readPattern, 2, (Option.some FieldType.boolean), [])
theorem mX36_readPattern : e_mv YX36_readPattern RX36 0 := ⟨q5010, qs223, q5011, by decide, by decide +kernel, (e_sig (by decide +kernel))⟩
theorem dX36_readPattern_0 : decode cX36_readPattern 0 = .ok (.aload_n 0, 1) := dc_42 (by decide +kernel)
theorem dX36_readPattern_1 : decode cX36_readPattern 1 = .ok (.iconst 0, 1) := dc_3 (by decide +kernel)
theorem dX36_readPattern_2 : decode cX36_readPattern 2 = .ok (.putfield 77, 3) := dc_181 (a := 0) (b := 77) (n := 77) (by decide +kernel)
theorem dX36_readPattern_5 : decode cX36_readPattern 5 = .ok (.aload_n 0, 1) := dc_42 (by decide +kernel)
theorem dX36_readPattern_6 : decode cX36_readPattern 6 = .ok (.aload_n 0, 1) := dc_42 (by decide +kernel)
theorem dX36_readPattern_7 : decode cX36_readPattern 7 = .ok (.invokevirtual 80, 3) := dc_182 (a := 0) (b := 80) (n := 80) (by decide +kernel)
theorem dX36_readPattern_10 : decode cX36_readPattern 10 = .ok (.bipush 46, 2) := dc_16 (a := 46) (v := 46) (by decide +kernel)
theorem dX36_readPattern_12 : decode cX36_readPattern 12 = .ok (.if_icmp .ne 7, 3) := dc_160 (a := 0) (b := 7) (v := 7) (by decide +kernel)
theorem dX36_readPattern_15 : decode cX36_readPattern 15 = .ok (.iconst 1, 1) := dc_4 (by decide +kernel)
theorem dX36_readPattern_16 : decode cX36_readPattern 16 = .ok (.goto 4, 3) := dc_167 (a := 0) (b := 4) (v := 4) (by decide +kernel)
theorem dX36_readPattern_19 : decode cX36_readPattern 19 = .ok (.iconst 0, 1) := dc_3 (by decide +kernel)
theorem dX36_readPattern_20 : decode cX36_readPattern 20 = .ok (.putfield 84, 3) := dc_181 (a := 0) (b := 84) (n := 84) (by decide +kernel)
theorem dX36_readPattern_23 : decode cX36_readPattern 23 = .ok (.aload_n 0, 1) := dc_42 (by decide +kernel)
theorem dX36_readPattern_24 : decode cX36_readPattern 24 = .ok (.iconst 0, 1) := dc_3 (by decide +kernel)
theorem dX36_readPattern_25 : decode cX36_readPattern 25 = .ok (.putfield 88, 3) := dc_181 (a := 0) (b := 88) (n := 88) (by decide +kernel)
theorem dX36_readPattern_28 : decode cX36_readPattern 28 = .ok (.aload_n 0, 1) := dc_42 (by decide +kernel)
theorem dX36_readPattern_29 : decode cX36_readPattern 29 = .ok (.getfield 84, 3) := dc_180 (a := 0) (b := 84) (n := 84) (by decide +kernel)
theorem dX36_readPattern_32 : decode cX36_readPattern 32 = .ok (.ifCond .eq 13, 3) := dc_153 (a := 0) (b := 13) (v := 13) (by decide +kernel)
theorem dX36_readPattern_35 : decode cX36_readPattern 35 = .ok (.aload_n 0, 1) := dc_42 (by decide +kernel)
theorem dX36_readPattern_36 : decode cX36_readPattern 36 = .ok (.dup, 1) := dc_89 (by decide +kernel)
theorem dX36_readPattern_37 : decode cX36_readPattern 37 = .ok (.getfield 71, 3) := dc_180 (a := 0) (b := 71) (n := 71) (by decide +kernel)
theorem dX36_readPattern_40 : decode cX36_readPattern 40 = .ok (.iconst 1, 1) := dc_4 (by decide +kernel)
theorem dX36_readPattern_41 : decode cX36_readPattern 41 = .ok (.iadd, 1) := dc_96 (by decide +kernel)
theorem dX36_readPattern_42 : decode cX36_readPattern 42 = .ok (.putfield 71, 3) := dc_181 (a := 0) (b := 71) (n := 71) (by decide +kernel)
theorem dX36_readPattern_45 : decode cX36_readPattern 45 = .ok (.iconst 0, 1) := dc_3 (by decide +kernel)
theorem dX36_readPattern_46 : decode cX36_readPattern 46 = .ok (.istore_n 1, 1) := dc_60 (by decide +kernel)
theorem dX36_readPattern_47 : decode cX36_readPattern 47 = .ok (.aload_n 0, 1) := dc_42 (by decide +kernel)
theorem dX36_readPattern_48 : decode cX36_readPattern 48 = .ok (.getfield 56, 3) := dc_180 (a := 0) (b := 56) (n := 56) (by decide +kernel)
theorem dX36_readPattern_51 : decode cX36_readPattern 51 = .ok (.iconst 0, 1) := dc_3 (by decide +kernel)
theorem dX36_readPattern_52 : decode cX36_readPattern 52 = .ok (.iconst 0, 1) := dc_3 (by decide +kernel)
theorem dX36_readPattern_53 : decode cX36_readPattern 53 = .ok (.iastore, 1) := dc_79 (by decide +kernel)
theorem dX36_readPattern_54 : decode cX36_readPattern 54 = .ok (.aload_n 0, 1) := dc_42 (by decide +kernel)
theorem dX36_readPattern_55 : decode cX36_readPattern 55 = .ok (.invokevirtual 80, 3) := dc_182 (a := 0) (b := 80) (n := 80) (by decide +kernel)
theorem dX36_readPattern_58 : decode cX36_readPattern 58 = .ok (.invokestatic 91, 3) := dc_184 (a := 0) (b := 91) (n := 91) (by decide +kernel)
theorem dX36_readPattern_61 : decode cX36_readPattern 61 = .ok (.ifCond .eq 38, 3) := dc_153 (a := 0) (b := 38) (v := 38) (by decide +kernel)
theorem dX36_readPattern_64 : decode cX36_readPattern 64 = .ok (.iload_n 1, 1) := dc_27 (by decide +kernel)
theorem dX36_readPattern_65 : decode cX36_readPattern 65 = .ok (.ifCond .ne 34, 3) := dc_154 (a := 0) (b := 34) (v := 34) (by decide +kernel)
theorem dX36_readPattern_68 : decode cX36_readPattern 68 = .ok (.aload_n 0, 1) := dc_42 (by decide +kernel)
theorem dX36_readPattern_69 : decode cX36_readPattern 69 = .ok (.getfield 56, 3) := dc_180 (a := 0) (b := 56) (n := 56) (by decide +kernel)
theorem dX36_readPattern_72 : decode cX36_readPattern 72 = .ok (.aload_n 0, 1) := dc_42 (by decide +kernel)
theorem dX36_readPattern_73 : decode cX36_readPattern 73 = .ok (.getfield 77, 3) := dc_180 (a := 0) (b := 77) (n := 77) (by decide +kernel)
theorem dX36_readPattern_76 : decode cX36_readPattern 76 = .ok (.aload_n 0, 1) := dc_42 (by decide +kernel)
theorem dX36_readPattern_77 : decode cX36_readPattern 77 = .ok (.invokevirtual 80, 3) := dc_182 (a := 0) (b := 80) (n := 80) (by decide +kernel)
theorem dX36_readPattern_80 : decode cX36_readPattern 80 = .ok (.bipush 48, 2) := dc_16 (a := 48) (v := 48) (by decide +kernel)
theorem dX36_readPattern_82 : decode cX36_readPattern 82 = .ok (.isub, 1) := dc_100 (by decide +kernel)
theorem dX36_readPattern_83 : decode cX36_readPattern 83 = .ok (.iastore, 1) := dc_79 (by decide +kernel)
theorem dX36_readPattern_84 : decode cX36_readPattern 84 = .ok (.iconst 1, 1) := dc_4 (by decide +kernel)
theorem dX36_readPattern_85 : decode cX36_readPattern 85 = .ok (.istore_n 1, 1) := dc_60 (by decide +kernel)
theorem dX36_readPattern_86 : decode cX36_readPattern 86 = .ok (.aload_n 0, 1) := dc_42 (by decide +kernel)
theorem dX36_readPattern_87 : decode cX36_readPattern 87 = .ok (.dup, 1) := dc_89 (by decide +kernel)
theorem dX36_readPattern_88 : decode cX36_readPattern 88 = .ok (.getfield 71, 3) := dc_180 (a := 0) (b := 71) (n := 71) (by decide +kernel)
theorem dX36_readPattern_91 : decode cX36_readPattern 91 = .ok (.iconst 1, 1) := dc_4 (by decide +kernel)
theorem dX36_readPattern_92 : decode cX36_readPattern 92 = .ok (.iadd, 1) := dc_96 (by decide +kernel)
theorem dX36_readPattern_93 : decode cX36_readPattern 93 = .ok (.putfield 71, 3) := dc_181 (a := 0) (b := 71) (n := 71) (by decide +kernel)
theorem dX36_readPattern_96 : decode cX36_readPattern 96 = .ok (.goto (-42), 3) := dc_167 (a := 255) (b := 214) (v := -42) (by decide +kernel)
theorem dX36_readPattern_99 : decode cX36_readPattern 99 = .ok (.aload_n 0, 1) := dc_42 (by decide +kernel)
theorem dX36_readPattern_100 : decode cX36_readPattern 100 = .ok (.invokevirtual 95, 3) := dc_182 (a := 0) (b := 95) (n := 95) (by decide +kernel)
theorem dX36_readPattern_103 : decode cX36_readPattern 103 = .ok (.ifCond .eq 56, 3) := dc_153 (a := 0) (b := 56) (v := 56) (by decide +kernel)
theorem dX36_readPattern_106 : decode cX36_readPattern 106 = .ok (.aload_n 0, 1) := dc_42 (by decide +kernel)
theorem dX36_readPattern_107 : decode cX36_readPattern 107 = .ok (.getfield 52, 3) := dc_180 (a := 0) (b := 52) (n := 52) (by decide +kernel)
theorem dX36_readPattern_110 : decode cX36_readPattern 110 = .ok (.aload_n 0, 1) := dc_42 (by decide +kernel)
theorem dX36_readPattern_111 : decode cX36_readPattern 111 = .ok (.getfield 77, 3) := dc_180 (a := 0) (b := 77) (n := 77) (by decide +kernel)
theorem dX36_readPattern_114 : decode cX36_readPattern 114 = .ok (.aload_n 0, 1) := dc_42 (by decide +kernel)
theorem dX36_readPattern_115 : decode cX36_readPattern 115 = .ok (.getfield 7, 3) := dc_180 (a := 0) (b := 7) (n := 7) (by decide +kernel)
theorem dX36_readPattern_118 : decode cX36_readPattern 118 = .ok (.aload_n 0, 1) := dc_42 (by decide +kernel)
theorem dX36_readPattern_119 : decode cX36_readPattern 119 = .ok (.invokevirtual 80, 3) := dc_182 (a := 0) (b := 80) (n := 80) (by decide +kernel)
theorem dX36_readPattern_122 : decode cX36_readPattern 122 = .ok (.iaload, 1) := dc_46 (by decide +kernel)
theorem dX36_readPattern_123 : decode cX36_readPattern 123 = .ok (.iastore, 1) := dc_79 (by decide +kernel)
theorem dX36_readPattern_124 : decode cX36_readPattern 124 = .ok (.aload_n 0, 1) := dc_42 (by decide +kernel)
theorem dX36_readPattern_125 : decode cX36_readPattern 125 = .ok (.dup, 1) := dc_89 (by decide +kernel)
theorem dX36_readPattern_126 : decode cX36_readPattern 126 = .ok (.getfield 77, 3) := dc_180 (a := 0) (b := 77) (n := 77) (by decide +kernel)
theorem dX36_readPattern_129 : decode cX36_readPattern 129 = .ok (.iconst 1, 1) := dc_4 (by decide +kernel)
theorem dX36_readPattern_130 : decode cX36_readPattern 130 = .ok (.iadd, 1) := dc_96 (by decide +kernel)
theorem dX36_readPattern_131 : decode cX36_readPattern 131 = .ok (.putfield 77, 3) := dc_181 (a := 0) (b := 77) (n := 77) (by decide +kernel)
theorem dX36_readPattern_134 : decode cX36_readPattern 134 = .ok (.aload_n 0, 1) := dc_42 (by decide +kernel)
theorem dX36_readPattern_135 : decode cX36_readPattern 135 = .ok (.getfield 56, 3) := dc_180 (a := 0) (b := 56) (n := 56) (by decide +kernel)
theorem dX36_readPattern_138 : decode cX36_readPattern 138 = .ok (.aload_n 0, 1) := dc_42 (by decide +kernel)
theorem dX36_readPattern_139 : decode cX36_readPattern 139 = .ok (.getfield 77, 3) := dc_180 (a := 0) (b := 77) (n := 77) (by decide +kernel)
theorem dX36_readPattern_142 : decode cX36_readPattern 142 = .ok (.iconst 0, 1) := dc_3 (by decide +kernel)
theorem dX36_readPattern_143 : decode cX36_readPattern 143 = .ok (.iastore, 1) := dc_79 (by decide +kernel)
theorem dX36_readPattern_144 : decode cX36_readPattern 144 = .ok (.iconst 0, 1) := dc_3 (by decide +kernel)
theorem dX36_readPattern_145 : decode cX36_readPattern 145 = .ok (.istore_n 1, 1) := dc_60 (by decide +kernel)
theorem dX36_readPattern_146 : decode cX36_readPattern 146 = .ok (.aload_n 0, 1) := dc_42 (by decide +kernel)
theorem dX36_readPattern_147 : decode cX36_readPattern 147 = .ok (.dup, 1) := dc_89 (by decide +kernel)
theorem dX36_readPattern_148 : decode cX36_readPattern 148 = .ok (.getfield 71, 3) := dc_180 (a := 0) (b := 71) (n := 71) (by decide +kernel)
theorem dX36_readPattern_151 : decode cX36_readPattern 151 = .ok (.iconst 1, 1) := dc_4 (by decide +kernel)
theorem dX36_readPattern_152 : decode cX36_readPattern 152 = .ok (.iadd, 1) := dc_96 (by decide +kernel)
theorem dX36_readPattern_153 : decode cX36_readPattern 153 = .ok (.putfield 71, 3) := dc_181 (a := 0) (b := 71) (n := 71) (by decide +kernel)
theorem dX36_readPattern_156 : decode cX36_readPattern 156 = .ok (.goto (-102), 3) := dc_167 (a := 255) (b := 154) (v := -102) (by decide +kernel)
theorem dX36_readPattern_159 : decode cX36_readPattern 159 = .ok (.aload_n 0, 1) := dc_42 (by decide +kernel)
theorem dX36_readPattern_160 : decode cX36_readPattern 160 = .ok (.invokevirtual 80, 3) := dc_182 (a := 0) (b := 80) (n := 80) (by decide +kernel)
theorem dX36_readPattern_163 : decode cX36_readPattern 163 = .ok (.bipush 46, 2) := dc_16 (a := 46) (v := 46) (by decide +kernel)
theorem dX36_readPattern_165 : decode cX36_readPattern 165 = .ok (.if_icmp .ne 30, 3) := dc_160 (a := 0) (b := 30) (v := 30) (by decide +kernel)
theorem dX36_readPattern_168 : decode cX36_readPattern 168 = .ok (.aload_n 0, 1) := dc_42 (by decide +kernel)
theorem dX36_readPattern_169 : decode cX36_readPattern 169 = .ok (.getfield 77, 3) := dc_180 (a := 0) (b := 77) (n := 77) (by decide +kernel)
theorem dX36_readPattern_172 : decode cX36_readPattern 172 = .ok (.ifCond .le 23, 3) := dc_158 (a := 0) (b := 23) (v := 23) (by decide +kernel)
theorem dX36_readPattern_175 : decode cX36_readPattern 175 = .ok (.aload_n 0, 1) := dc_42 (by decide +kernel)
theorem dX36_readPattern_176 : decode cX36_readPattern 176 = .ok (.iconst 1, 1) := dc_4 (by decide +kernel)
theorem dX36_readPattern_177 : decode cX36_readPattern 177 = .ok (.putfield 88, 3) := dc_181 (a := 0) (b := 88) (n := 88) (by decide +kernel)
theorem dX36_readPattern_180 : decode cX36_readPattern 180 = .ok (.aload_n 0, 1) := dc_42 (by decide +kernel)
theorem dX36_readPattern_181 : decode cX36_readPattern 181 = .ok (.dup, 1) := dc_89 (by decide +kernel)
theorem dX36_readPattern_182 : decode cX36_readPattern 182 = .ok (.getfield 71, 3) := dc_180 (a := 0) (b := 71) (n := 71) (by decide +kernel)
theorem dX36_readPattern_185 : decode cX36_readPattern 185 = .ok (.iconst 1, 1) := dc_4 (by decide +kernel)
theorem dX36_readPattern_186 : decode cX36_readPattern 186 = .ok (.iadd, 1) := dc_96 (by decide +kernel)
theorem dX36_readPattern_187 : decode cX36_readPattern 187 = .ok (.putfield 71, 3) := dc_181 (a := 0) (b := 71) (n := 71) (by decide +kernel)
theorem dX36_readPattern_190 : decode cX36_readPattern 190 = .ok (.aload_n 0, 1) := dc_42 (by decide +kernel)
theorem dX36_readPattern_191 : decode cX36_readPattern 191 = .ok (.invokevirtual 99, 3) := dc_182 (a := 0) (b := 99) (n := 99) (by decide +kernel)
theorem dX36_readPattern_194 : decode cX36_readPattern 194 = .ok (.ireturn, 1) := dc_172 (by decide +kernel)
theorem dX36_readPattern_195 : decode cX36_readPattern 195 = .ok (.aload_n 0, 1) := dc_42 (by decide +kernel)
theorem dX36_readPattern_196 : decode cX36_readPattern 196 = .ok (.getfield 77, 3) := dc_180 (a := 0) (b := 77) (n := 77) (by decide +kernel)
theorem dX36_readPattern_199 : decode cX36_readPattern 199 = .ok (.ifCond .le 14, 3) := dc_158 (a := 0) (b := 14) (v := 14) (by decide +kernel)
theorem dX36_readPattern_202 : decode cX36_readPattern 202 = .ok (.aload_n 0, 1) := dc_42 (by decide +kernel)
theorem dX36_readPattern_203 : decode cX36_readPattern 203 = .ok (.invokevirtual 99, 3) := dc_182 (a := 0) (b := 99) (n := 99) (by decide +kernel)
theorem dX36_readPattern_206 : decode cX36_readPattern 206 = .ok (.ifCond .eq 7, 3) := dc_153 (a := 0) (b := 7) (v := 7) (by decide +kernel)
theorem dX36_readPattern_209 : decode cX36_readPattern 209 = .ok (.iconst 1, 1) := dc_4 (by decide +kernel)
theorem dX36_readPattern_210 : decode cX36_readPattern 210 = .ok (.goto 4, 3) := dc_167 (a := 0) (b := 4) (v := 4) (by decide +kernel)
theorem dX36_readPattern_213 : decode cX36_readPattern 213 = .ok (.iconst 0, 1) := dc_3 (by decide +kernel)
theorem dX36_readPattern_214 : decode cX36_readPattern 214 = .ok (.ireturn, 1) := dc_172 (by decide +kernel)
theorem GX36_52 {w : eW} {d : Nat} {Y : eY} {pc : Nat} {ls : eL} {st : List Value} {h : eH} {Q : eO → eH → Prop} {a : Nat} {x : Nat} (hf : g_A 35 h a 20 = some x) (hd : decode Y.2.1 pc = .ok (.getfield 52, 3)) (hY : Y.1.cls = RX36) (kk : wp w d Y (pc + 3) ls (.ref x :: st) h Q) : wp w d Y pc ls (.ref a :: st) h Q := x_gA (ci := 35) (k := 20) hf hd rfl (by decide) (by rw [hY]; exact q4153) kk
theorem GX36_56 {w : eW} {d : Nat} {Y : eY} {pc : Nat} {ls : eL} {st : List Value} {h : eH} {Q : eO → eH → Prop} {a : Nat} {x : Nat} (hf : g_A 35 h a 21 = some x) (hd : decode Y.2.1 pc = .ok (.getfield 56, 3)) (hY : Y.1.cls = RX36) (kk : wp w d Y (pc + 3) ls (.ref x :: st) h Q) : wp w d Y pc ls (.ref a :: st) h Q := x_gA (ci := 35) (k := 21) hf hd rfl (by decide) (by rw [hY]; exact q4154) kk
theorem GX36_77 {w : eW} {d : Nat} {Y : eY} {pc : Nat} {ls : eL} {st : List Value} {h : eH} {Q : eO → eH → Prop} {a : Nat} {x : Int32} (hf : g_I 35 h a 17 = some x) (hd : decode Y.2.1 pc = .ok (.getfield 77, 3)) (hY : Y.1.cls = RX36) (kk : wp w d Y (pc + 3) ls (.int x :: st) h Q) : wp w d Y pc ls (.ref a :: st) h Q := x_gI (ci := 35) (k := 17) hf hd rfl (by decide) (by rw [hY]; exact q4150) kk
theorem GX36_84 {w : eW} {d : Nat} {Y : eY} {pc : Nat} {ls : eL} {st : List Value} {h : eH} {Q : eO → eH → Prop} {a : Nat} {x : Int32} (hf : g_I 35 h a 18 = some x) (hd : decode Y.2.1 pc = .ok (.getfield 84, 3)) (hY : Y.1.cls = RX36) (kk : wp w d Y (pc + 3) ls (.int x :: st) h Q) : wp w d Y pc ls (.ref a :: st) h Q := x_gI (ci := 35) (k := 18) hf hd rfl (by decide) (by rw [hY]; exact q4151) kk
theorem SX36_77 {w : eW} {d : Nat} {Y : eY} {pc : Nat} {ls : eL} {st : List Value} {h : eH} {Q : eO → eH → Prop} {a : Nat} {h' : eH} {x : Int32} (hf : p_V 35 h a 17 (.int x) = some h') (hd : decode Y.2.1 pc = .ok (.putfield 77, 3)) (hY : Y.1.cls = RX36) (kk : wp w d Y (pc + 3) ls st h' Q) : wp w d Y pc ls (.int x :: .ref a :: st) h Q := x_pI (ci := 35) (k := 17) hf hd rfl (by decide) (by rw [hY]; exact q4150) rfl rfl kk
theorem SX36_84 {w : eW} {d : Nat} {Y : eY} {pc : Nat} {ls : eL} {st : List Value} {h : eH} {Q : eO → eH → Prop} {a : Nat} {h' : eH} {x : Int32} (hf : p_Z 35 h a 18 x = some h') (hd : decode Y.2.1 pc = .ok (.putfield 84, 3)) (hY : Y.1.cls = RX36) (kk : wp w d Y (pc + 3) ls st h' Q) : wp w d Y pc ls (.int x :: .ref a :: st) h Q := x_pZ (ci := 35) (k := 18) hf hd rfl (by decide) (by rw [hY]; exact q4151) rfl rfl kk
theorem SX36_88 {w : eW} {d : Nat} {Y : eY} {pc : Nat} {ls : eL} {st : List Value} {h : eH} {Q : eO → eH → Prop} {a : Nat} {h' : eH} {x : Int32} (hf : p_Z 35 h a 19 x = some h') (hd : decode Y.2.1 pc = .ok (.putfield 88, 3)) (hY : Y.1.cls = RX36) (kk : wp w d Y (pc + 3) ls st h' Q) : wp w d Y pc ls (.int x :: .ref a :: st) h Q := x_pZ (ci := 35) (k := 19) hf hd rfl (by decide) (by rw [hY]; exact q4152) rfl rfl kk
def fX36_readPattern_b214 (N : Nat) (s0 : Int32) (h : eH) : Option (Int32 × eH) :=
  z_r s0 (s0, h)
theorem pX36_readPattern_b214 {w : eW} {d : Nat} (hd : 1 ≤ d + 1) {N : Nat} {s0 : Int32} {h : eH} {q} (hf : fX36_readPattern_b214 N s0 h = some q) : wp w (d + 1) YX36_readPattern 214 [none, none] [.int s0] h (e_is (e_rn c_I q)) := by
  unfold fX36_readPattern_b214 at hf
  obtain ⟨b1, rfl⟩ := z_r_some hf
  exact w_iret dX36_readPattern_214 rfl b1 rfl
def fX36_readPattern_b213 (N : Nat)  (h : eH) : Option (Int32 × eH) :=
  fX36_readPattern_b214 N (0 : Int32) h
theorem pX36_readPattern_b213 {w : eW} {d : Nat} (hd : 1 ≤ d + 1) {N : Nat}  {h : eH} {q} (hf : fX36_readPattern_b213 N h = some q) : wp w (d + 1) YX36_readPattern 213 [none, none] [] h (e_is (e_rn c_I q)) := by
  unfold fX36_readPattern_b213 at hf
  refine w_iconst dX36_readPattern_213 (v := 0) (by decide) ?_
  exact (pX36_readPattern_b214 hd hf).to trivial
def fX36_readPattern_b195 (N : Nat) (l0 : Nat) (h : eH) : Option (Int32 × eH) :=
  (g_I 35 h l0 17).bind fun x1 =>
  if x1 ≤ 0 then
    fX36_readPattern_b213 N h
  else
    (k_ok 35 h l0).bind fun _ =>
    (fX36_isOver l0 h).bind fun q5 =>
    if q5.1 = 0 then
      fX36_readPattern_b213 N q5.2
    else
      fX36_readPattern_b214 N (1 : Int32) q5.2
theorem pX36_readPattern_b195 {w : eW} {d : Nat} (hd : 1 ≤ d + 1) {N : Nat} {l0 : Nat} {h : eH} {q} (hf : fX36_readPattern_b195 N l0 h = some q) : wp w (d + 1) YX36_readPattern 195 [some (.ref l0), none] [] h (e_is (e_rn c_I q)) := by
  unfold fX36_readPattern_b195 at hf
  refine w_aload_n dX36_readPattern_195 rfl rfl ?_
  obtain ⟨x1, b2, hf⟩ := Option.bind_eq_some_iff.mp hf
  refine GX36_77 b2 dX36_readPattern_196 rfl ?_
  refine w_if_le 213 dX36_readPattern_199 (by decide) (fun c3 => ?_) (fun c3 => ?_)
  · replace hf := (if_pos (show x1 ≤ 0 from c3)).symm.trans hf
    exact (pX36_readPattern_b213 hd hf).to trivial
  · replace hf := (if_neg (show ¬ (x1 ≤ 0) from c3)).symm.trans hf
    refine w_aload_n dX36_readPattern_202 rfl rfl ?_
    obtain ⟨_, b4, hf⟩ := Option.bind_eq_some_iff.mp hf
    refine x_cnI hf (e_stV (Yc := YX36_isOver) (ci := 35) (av := []) (st := []) dX36_readPattern_203 q5023 mX36_isOver rfl (k_ok_some b4).1 (k_ok_some b4).2) mX36_isOver.2.2.1 mX36_isOver.2.2.2.2.1 (Nat.le_of_ble_eq_true rfl) (Nat.le_of_ble_eq_true rfl) (fun q hq => pX36_isOver (by omega) hq) (fun q5 hf => ?_)
    refine w_if_eq 213 dX36_readPattern_206 (by decide) (fun c6 => ?_) (fun c6 => ?_)
    · replace hf := (if_pos (show q5.1 = 0 from c6)).symm.trans hf
      exact (pX36_readPattern_b213 hd hf).to trivial
    · replace hf := (if_neg (show ¬ (q5.1 = 0) from c6)).symm.trans hf
      refine w_iconst dX36_readPattern_209 (v := 1) (by decide) ?_
      refine w_goto 214 dX36_readPattern_210 (by decide) ?_
      exact (pX36_readPattern_b214 hd hf).to trivial
def fX36_readPattern_b99 (N : Nat) (k54 : Nat → Int32 → eH → Option (Int32 × eH)) (l0 : Nat) (h : eH) : Option (Int32 × eH) :=
  (k_ok 35 h l0).bind fun _ =>
  (fX36_isLetter l0 h).bind fun q2 =>
  if q2.1 = 0 then
    (k_ok 35 q2.2 l0).bind fun _ =>
    (fX36_look l0 q2.2).bind fun q5 =>
    if ¬ q5.1 = (46 : Int32) then
      fX36_readPattern_b195 N l0 q5.2
    else
      (g_I 35 q5.2 l0 17).bind fun x7 =>
      if x7 ≤ 0 then
        fX36_readPattern_b195 N l0 q5.2
      else
        (p_Z 35 q5.2 l0 19 (1 : Int32)).bind fun h10 =>
        (g_I 35 h10 l0 16).bind fun x12 =>
        (p_V 35 h10 l0 16 (.int (x12 + (1 : Int32)))).bind fun h14 =>
        (k_ok 35 h14 l0).bind fun _ =>
        (fX36_isOver l0 h14).bind fun q17 =>
        z_r q17.1 (q17.1, q17.2)
  else
    (g_A 35 q2.2 l0 20).bind fun a19 =>
    (g_I 35 q2.2 l0 17).bind fun x21 =>
    (g_A 35 q2.2 l0 0).bind fun a23 =>
    (k_ok 35 q2.2 l0).bind fun _ =>
    (fX36_look l0 q2.2).bind fun q26 =>
    (r_I 100 q26.2 a23 q26.1).bind fun x27 =>
    (q_V 100 q26.2 a19 x21 (.int x27)).bind fun h29 =>
    (g_I 35 h29 l0 17).bind fun x31 =>
    (p_V 35 h29 l0 17 (.int (x31 + (1 : Int32)))).bind fun h33 =>
    (g_A 35 h33 l0 21).bind fun a35 =>
    (g_I 35 h33 l0 17).bind fun x37 =>
    (q_V 100 h33 a35 x37 (.int (0 : Int32))).bind fun h39 =>
    (g_I 35 h39 l0 16).bind fun x41 =>
    (p_V 35 h39 l0 16 (.int (x41 + (1 : Int32)))).bind fun h43 =>
    k54 l0 (0 : Int32) h43
theorem pX36_readPattern_b99 {w : eW} {d : Nat} (hd : 1 ≤ d + 1) {N : Nat} {k54 : Nat → Int32 → eH → Option (Int32 × eH)} (hk54 : ∀ l0 l1 h q, k54 l0 l1 h = some q → wp w (d + 1) YX36_readPattern 54 [some (.ref l0), some (.int l1)] [] h (e_is (e_rn c_I q))) {l0 : Nat} {h : eH} {q} (hf : fX36_readPattern_b99 N k54 l0 h = some q) : wp w (d + 1) YX36_readPattern 99 [some (.ref l0), none] [] h (e_is (e_rn c_I q)) := by
  unfold fX36_readPattern_b99 at hf
  refine w_aload_n dX36_readPattern_99 rfl rfl ?_
  obtain ⟨_, b1, hf⟩ := Option.bind_eq_some_iff.mp hf
  refine x_cnI hf (e_stV (Yc := YX36_isLetter) (ci := 35) (av := []) (st := []) dX36_readPattern_100 q5019 mX36_isLetter rfl (k_ok_some b1).1 (k_ok_some b1).2) mX36_isLetter.2.2.1 mX36_isLetter.2.2.2.2.1 (Nat.le_of_ble_eq_true rfl) (Nat.le_of_ble_eq_true rfl) (fun q hq => pX36_isLetter (by omega) hq) (fun q2 hf => ?_)
  refine w_if_eq 159 dX36_readPattern_103 (by decide) (fun c3 => ?_) (fun c3 => ?_)
  · replace hf := (if_pos (show q2.1 = 0 from c3)).symm.trans hf
    refine w_aload_n dX36_readPattern_159 rfl rfl ?_
    obtain ⟨_, b4, hf⟩ := Option.bind_eq_some_iff.mp hf
    refine x_cnI hf (e_stV (Yc := YX36_look) (ci := 35) (av := []) (st := []) dX36_readPattern_160 q5012 mX36_look rfl (k_ok_some b4).1 (k_ok_some b4).2) mX36_look.2.2.1 mX36_look.2.2.2.2.1 (Nat.le_of_ble_eq_true rfl) (Nat.le_of_ble_eq_true rfl) (fun q hq => pX36_look (by omega) hq) (fun q5 hf => ?_)
    refine w_bipush dX36_readPattern_163 (v := 46) (by decide) ?_
    refine w_icmp_ne 195 dX36_readPattern_165 (by decide) (fun c6 => ?_) (fun c6 => ?_)
    · replace hf := (if_pos (show ¬ q5.1 = (46 : Int32) from c6)).symm.trans hf
      exact (pX36_readPattern_b195 hd hf).to ⟨rfl, trivial⟩
    · replace hf := (if_neg (show ¬ (¬ q5.1 = (46 : Int32)) from (fun z => z c6))).symm.trans hf
      refine w_aload_n dX36_readPattern_168 rfl rfl ?_
      obtain ⟨x7, b8, hf⟩ := Option.bind_eq_some_iff.mp hf
      refine GX36_77 b8 dX36_readPattern_169 rfl ?_
      refine w_if_le 195 dX36_readPattern_172 (by decide) (fun c9 => ?_) (fun c9 => ?_)
      · replace hf := (if_pos (show x7 ≤ 0 from c9)).symm.trans hf
        exact (pX36_readPattern_b195 hd hf).to ⟨rfl, trivial⟩
      · replace hf := (if_neg (show ¬ (x7 ≤ 0) from c9)).symm.trans hf
        refine w_aload_n dX36_readPattern_175 rfl rfl ?_
        refine w_iconst dX36_readPattern_176 (v := 1) (by decide) ?_
        obtain ⟨h10, b11, hf⟩ := Option.bind_eq_some_iff.mp hf
        refine SX36_88 b11 dX36_readPattern_177 rfl ?_
        refine w_aload_n dX36_readPattern_180 rfl rfl ?_
        refine w_dup dX36_readPattern_181 rfl ?_
        obtain ⟨x12, b13, hf⟩ := Option.bind_eq_some_iff.mp hf
        refine GX36_71 b13 dX36_readPattern_182 rfl ?_
        refine w_iconst dX36_readPattern_185 (v := 1) (by decide) ?_
        refine w_iadd dX36_readPattern_186 ?_
        obtain ⟨h14, b15, hf⟩ := Option.bind_eq_some_iff.mp hf
        refine SX36_71 b15 dX36_readPattern_187 rfl ?_
        refine w_aload_n dX36_readPattern_190 rfl rfl ?_
        obtain ⟨_, b16, hf⟩ := Option.bind_eq_some_iff.mp hf
        refine x_cnI hf (e_stV (Yc := YX36_isOver) (ci := 35) (av := []) (st := []) dX36_readPattern_191 q5023 mX36_isOver rfl (k_ok_some b16).1 (k_ok_some b16).2) mX36_isOver.2.2.1 mX36_isOver.2.2.2.2.1 (Nat.le_of_ble_eq_true rfl) (Nat.le_of_ble_eq_true rfl) (fun q hq => pX36_isOver (by omega) hq) (fun q17 hf => ?_)
        obtain ⟨b18, rfl⟩ := z_r_some hf
        exact w_iret dX36_readPattern_194 rfl b18 rfl
  · replace hf := (if_neg (show ¬ (q2.1 = 0) from c3)).symm.trans hf
    refine w_aload_n dX36_readPattern_106 rfl rfl ?_
    obtain ⟨a19, b20, hf⟩ := Option.bind_eq_some_iff.mp hf
    refine GX36_52 b20 dX36_readPattern_107 rfl ?_
    refine w_aload_n dX36_readPattern_110 rfl rfl ?_
    obtain ⟨x21, b22, hf⟩ := Option.bind_eq_some_iff.mp hf
    refine GX36_77 b22 dX36_readPattern_111 rfl ?_
    refine w_aload_n dX36_readPattern_114 rfl rfl ?_
    obtain ⟨a23, b24, hf⟩ := Option.bind_eq_some_iff.mp hf
    refine GX36_7 b24 dX36_readPattern_115 rfl ?_
    refine w_aload_n dX36_readPattern_118 rfl rfl ?_
    obtain ⟨_, b25, hf⟩ := Option.bind_eq_some_iff.mp hf
    refine x_cnI hf (e_stV (Yc := YX36_look) (ci := 35) (av := []) (st := [.ref a23, .int x21, .ref a19]) dX36_readPattern_119 q5012 mX36_look rfl (k_ok_some b25).1 (k_ok_some b25).2) mX36_look.2.2.1 mX36_look.2.2.2.2.1 (Nat.le_of_ble_eq_true rfl) (Nat.le_of_ble_eq_true rfl) (fun q hq => pX36_look (by omega) hq) (fun q26 hf => ?_)
    obtain ⟨x27, b28, hf⟩ := Option.bind_eq_some_iff.mp hf
    refine x_rI b28 dX36_readPattern_122 ?_
    obtain ⟨h29, b30, hf⟩ := Option.bind_eq_some_iff.mp hf
    refine x_qI b30 dX36_readPattern_123 ?_
    refine w_aload_n dX36_readPattern_124 rfl rfl ?_
    refine w_dup dX36_readPattern_125 rfl ?_
    obtain ⟨x31, b32, hf⟩ := Option.bind_eq_some_iff.mp hf
    refine GX36_77 b32 dX36_readPattern_126 rfl ?_
    refine w_iconst dX36_readPattern_129 (v := 1) (by decide) ?_
    refine w_iadd dX36_readPattern_130 ?_
    obtain ⟨h33, b34, hf⟩ := Option.bind_eq_some_iff.mp hf
    refine SX36_77 b34 dX36_readPattern_131 rfl ?_
    refine w_aload_n dX36_readPattern_134 rfl rfl ?_
    obtain ⟨a35, b36, hf⟩ := Option.bind_eq_some_iff.mp hf
    refine GX36_56 b36 dX36_readPattern_135 rfl ?_
    refine w_aload_n dX36_readPattern_138 rfl rfl ?_
    obtain ⟨x37, b38, hf⟩ := Option.bind_eq_some_iff.mp hf
    refine GX36_77 b38 dX36_readPattern_139 rfl ?_
    refine w_iconst dX36_readPattern_142 (v := 0) (by decide) ?_
    obtain ⟨h39, b40, hf⟩ := Option.bind_eq_some_iff.mp hf
    refine x_qI b40 dX36_readPattern_143 ?_
    refine w_iconst dX36_readPattern_144 (v := 0) (by decide) ?_
    refine w_istore_n dX36_readPattern_145 rfl (by decide) (ls' := [some (.ref l0), some (.int (0 : Int32))]) rfl ?_
    refine w_aload_n dX36_readPattern_146 rfl rfl ?_
    refine w_dup dX36_readPattern_147 rfl ?_
    obtain ⟨x41, b42, hf⟩ := Option.bind_eq_some_iff.mp hf
    refine GX36_71 b42 dX36_readPattern_148 rfl ?_
    refine w_iconst dX36_readPattern_151 (v := 1) (by decide) ?_
    refine w_iadd dX36_readPattern_152 ?_
    obtain ⟨h43, b44, hf⟩ := Option.bind_eq_some_iff.mp hf
    refine SX36_71 b44 dX36_readPattern_153 rfl ?_
    refine w_goto 54 dX36_readPattern_156 (by decide) ?_
    exact (hk54 _ _ _ _ hf).to ⟨rfl, rfl, trivial⟩
def fX36_readPattern_b54 (N : Nat) : Nat → Nat → Int32 → eH → Option (Int32 × eH)
  | 0, _, _, _ => none
  | n + 1, l0, l1, h =>
    (k_ok 35 h l0).bind fun _ =>
    (fX36_look l0 h).bind fun q2 =>
    (fX36_isDigit q2.1 q2.2).bind fun q3 =>
    if q3.1 = 0 then
      fX36_readPattern_b99 N (fX36_readPattern_b54 N n) l0 q3.2
    else
      if ¬ l1 = 0 then
        fX36_readPattern_b99 N (fX36_readPattern_b54 N n) l0 q3.2
      else
        (g_A 35 q3.2 l0 21).bind fun a6 =>
        (g_I 35 q3.2 l0 17).bind fun x8 =>
        (k_ok 35 q3.2 l0).bind fun _ =>
        (fX36_look l0 q3.2).bind fun q11 =>
        (q_V 100 q11.2 a6 x8 (.int (q11.1 - (48 : Int32)))).bind fun h12 =>
        (g_I 35 h12 l0 16).bind fun x14 =>
        (p_V 35 h12 l0 16 (.int (x14 + (1 : Int32)))).bind fun h16 =>
        fX36_readPattern_b54 N n l0 (1 : Int32) h16
theorem pX36_readPattern_b54 {w : eW} {d : Nat} (hd : 1 ≤ d + 1) {N : Nat} : ∀ (n : Nat) l0 l1 h q, fX36_readPattern_b54 N n l0 l1 h = some q → wp w (d + 1) YX36_readPattern 54 [some (.ref l0), some (.int l1)] [] h (e_is (e_rn c_I q)) := by
  intro n
  induction n with
  | zero => intro l0 l1 h q hf; simp [fX36_readPattern_b54] at hf
  | succ n ih =>
    intro l0 l1 h q hf
    rw [fX36_readPattern_b54] at hf
    refine w_aload_n dX36_readPattern_54 rfl rfl ?_
    obtain ⟨_, b1, hf⟩ := Option.bind_eq_some_iff.mp hf
    refine x_cnI hf (e_stV (Yc := YX36_look) (ci := 35) (av := []) (st := []) dX36_readPattern_55 q5012 mX36_look rfl (k_ok_some b1).1 (k_ok_some b1).2) mX36_look.2.2.1 mX36_look.2.2.2.2.1 (Nat.le_of_ble_eq_true rfl) (Nat.le_of_ble_eq_true rfl) (fun q hq => pX36_look (by omega) hq) (fun q2 hf => ?_)
    refine x_cnI hf (e_stS (Yc := YX36_isDigit) (av := [.int q2.1]) (st := []) dX36_readPattern_58 q5016 mX36_isDigit) mX36_isDigit.2.2.1 mX36_isDigit.2.2.2.2.1 (Nat.le_of_ble_eq_true rfl) (Nat.le_of_ble_eq_true rfl) (fun q hq => pX36_isDigit (by omega) hq) (fun q3 hf => ?_)
    refine w_if_eq 99 dX36_readPattern_61 (by decide) (fun c4 => ?_) (fun c4 => ?_)
    · replace hf := (if_pos (show q3.1 = 0 from c4)).symm.trans hf
      exact (pX36_readPattern_b99 hd ih hf).to ⟨rfl, trivial⟩
    · replace hf := (if_neg (show ¬ (q3.1 = 0) from c4)).symm.trans hf
      refine w_iload_n dX36_readPattern_64 rfl rfl ?_
      refine w_if_ne 99 dX36_readPattern_65 (by decide) (fun c5 => ?_) (fun c5 => ?_)
      · replace hf := (if_pos (show ¬ l1 = 0 from c5)).symm.trans hf
        exact (pX36_readPattern_b99 hd ih hf).to ⟨rfl, trivial⟩
      · replace hf := (if_neg (show ¬ (¬ l1 = 0) from (fun z => z c5))).symm.trans hf
        refine w_aload_n dX36_readPattern_68 rfl rfl ?_
        obtain ⟨a6, b7, hf⟩ := Option.bind_eq_some_iff.mp hf
        refine GX36_56 b7 dX36_readPattern_69 rfl ?_
        refine w_aload_n dX36_readPattern_72 rfl rfl ?_
        obtain ⟨x8, b9, hf⟩ := Option.bind_eq_some_iff.mp hf
        refine GX36_77 b9 dX36_readPattern_73 rfl ?_
        refine w_aload_n dX36_readPattern_76 rfl rfl ?_
        obtain ⟨_, b10, hf⟩ := Option.bind_eq_some_iff.mp hf
        refine x_cnI hf (e_stV (Yc := YX36_look) (ci := 35) (av := []) (st := [.int x8, .ref a6]) dX36_readPattern_77 q5012 mX36_look rfl (k_ok_some b10).1 (k_ok_some b10).2) mX36_look.2.2.1 mX36_look.2.2.2.2.1 (Nat.le_of_ble_eq_true rfl) (Nat.le_of_ble_eq_true rfl) (fun q hq => pX36_look (by omega) hq) (fun q11 hf => ?_)
        refine w_bipush dX36_readPattern_80 (v := 48) (by decide) ?_
        refine w_isub dX36_readPattern_82 ?_
        obtain ⟨h12, b13, hf⟩ := Option.bind_eq_some_iff.mp hf
        refine x_qI b13 dX36_readPattern_83 ?_
        refine w_iconst dX36_readPattern_84 (v := 1) (by decide) ?_
        refine w_istore_n dX36_readPattern_85 rfl (by decide) (ls' := [some (.ref l0), some (.int (1 : Int32))]) rfl ?_
        refine w_aload_n dX36_readPattern_86 rfl rfl ?_
        refine w_dup dX36_readPattern_87 rfl ?_
        obtain ⟨x14, b15, hf⟩ := Option.bind_eq_some_iff.mp hf
        refine GX36_71 b15 dX36_readPattern_88 rfl ?_
        refine w_iconst dX36_readPattern_91 (v := 1) (by decide) ?_
        refine w_iadd dX36_readPattern_92 ?_
        obtain ⟨h16, b17, hf⟩ := Option.bind_eq_some_iff.mp hf
        refine SX36_71 b17 dX36_readPattern_93 rfl ?_
        refine w_goto 54 dX36_readPattern_96 (by decide) ?_
        exact (ih _ _ _ _ hf).to ⟨rfl, rfl, trivial⟩
def fX36_readPattern_b45 (N : Nat) (l0 : Nat) (h : eH) : Option (Int32 × eH) :=
  (g_A 35 h l0 21).bind fun a1 =>
  (q_V 100 h a1 (0 : Int32) (.int (0 : Int32))).bind fun h3 =>
  fX36_readPattern_b54 N N l0 (0 : Int32) h3
theorem pX36_readPattern_b45 {w : eW} {d : Nat} (hd : 1 ≤ d + 1) {N : Nat} {l0 : Nat} {h : eH} {q} (hf : fX36_readPattern_b45 N l0 h = some q) : wp w (d + 1) YX36_readPattern 45 [some (.ref l0), none] [] h (e_is (e_rn c_I q)) := by
  unfold fX36_readPattern_b45 at hf
  refine w_iconst dX36_readPattern_45 (v := 0) (by decide) ?_
  refine w_istore_n dX36_readPattern_46 rfl (by decide) (ls' := [some (.ref l0), some (.int (0 : Int32))]) rfl ?_
  refine w_aload_n dX36_readPattern_47 rfl rfl ?_
  obtain ⟨a1, b2, hf⟩ := Option.bind_eq_some_iff.mp hf
  refine GX36_56 b2 dX36_readPattern_48 rfl ?_
  refine w_iconst dX36_readPattern_51 (v := 0) (by decide) ?_
  refine w_iconst dX36_readPattern_52 (v := 0) (by decide) ?_
  obtain ⟨h3, b4, hf⟩ := Option.bind_eq_some_iff.mp hf
  refine x_qI b4 dX36_readPattern_53 ?_
  exact (pX36_readPattern_b54 hd N _ _ _ _ hf).to ⟨rfl, rfl, trivial⟩
def fX36_readPattern_b20 (N : Nat) (l0 : Nat) (s0 : Nat) (s1 : Int32) (h : eH) : Option (Int32 × eH) :=
  (p_Z 35 h s0 18 s1).bind fun h1 =>
  (p_Z 35 h1 l0 19 (0 : Int32)).bind fun h3 =>
  (g_I 35 h3 l0 18).bind fun x5 =>
  if x5 = 0 then
    fX36_readPattern_b45 N l0 h3
  else
    (g_I 35 h3 l0 16).bind fun x8 =>
    (p_V 35 h3 l0 16 (.int (x8 + (1 : Int32)))).bind fun h10 =>
    fX36_readPattern_b45 N l0 h10
theorem pX36_readPattern_b20 {w : eW} {d : Nat} (hd : 1 ≤ d + 1) {N : Nat} {l0 : Nat} {s0 : Nat} {s1 : Int32} {h : eH} {q} (hf : fX36_readPattern_b20 N l0 s0 s1 h = some q) : wp w (d + 1) YX36_readPattern 20 [some (.ref l0), none] [.int s1, .ref s0] h (e_is (e_rn c_I q)) := by
  unfold fX36_readPattern_b20 at hf
  obtain ⟨h1, b2, hf⟩ := Option.bind_eq_some_iff.mp hf
  refine SX36_84 b2 dX36_readPattern_20 rfl ?_
  refine w_aload_n dX36_readPattern_23 rfl rfl ?_
  refine w_iconst dX36_readPattern_24 (v := 0) (by decide) ?_
  obtain ⟨h3, b4, hf⟩ := Option.bind_eq_some_iff.mp hf
  refine SX36_88 b4 dX36_readPattern_25 rfl ?_
  refine w_aload_n dX36_readPattern_28 rfl rfl ?_
  obtain ⟨x5, b6, hf⟩ := Option.bind_eq_some_iff.mp hf
  refine GX36_84 b6 dX36_readPattern_29 rfl ?_
  refine w_if_eq 45 dX36_readPattern_32 (by decide) (fun c7 => ?_) (fun c7 => ?_)
  · replace hf := (if_pos (show x5 = 0 from c7)).symm.trans hf
    exact (pX36_readPattern_b45 hd hf).to ⟨rfl, trivial⟩
  · replace hf := (if_neg (show ¬ (x5 = 0) from c7)).symm.trans hf
    refine w_aload_n dX36_readPattern_35 rfl rfl ?_
    refine w_dup dX36_readPattern_36 rfl ?_
    obtain ⟨x8, b9, hf⟩ := Option.bind_eq_some_iff.mp hf
    refine GX36_71 b9 dX36_readPattern_37 rfl ?_
    refine w_iconst dX36_readPattern_40 (v := 1) (by decide) ?_
    refine w_iadd dX36_readPattern_41 ?_
    obtain ⟨h10, b11, hf⟩ := Option.bind_eq_some_iff.mp hf
    refine SX36_71 b11 dX36_readPattern_42 rfl ?_
    exact (pX36_readPattern_b45 hd hf).to ⟨rfl, trivial⟩
def fX36_readPattern (N : Nat) (this : Nat) (h : eH) : Option (Int32 × eH) :=
  (p_V 35 h this 17 (.int (0 : Int32))).bind fun h1 =>
  (k_ok 35 h1 this).bind fun _ =>
  (fX36_look this h1).bind fun q4 =>
  if ¬ q4.1 = (46 : Int32) then
    fX36_readPattern_b20 N this this (0 : Int32) q4.2
  else
    fX36_readPattern_b20 N this this (1 : Int32) q4.2
theorem pX36_readPattern {w : eW} {d : Nat} (hd : 1 ≤ d) {N : Nat} {this : Nat} {h : eH} {q} (hf : fX36_readPattern N this h = some q) : wm w d YX36_readPattern [.ref this] h (e_is (e_rn c_I q)) := by
  obtain ⟨d, rfl⟩ : ∃ e, d = e + 1 := ⟨d - 1, by omega⟩
  show wp w (d + 1) YX36_readPattern 0 [some (.ref this), none] [] h _
  unfold fX36_readPattern at hf
  refine w_aload_n dX36_readPattern_0 rfl rfl ?_
  refine w_iconst dX36_readPattern_1 (v := 0) (by decide) ?_
  obtain ⟨h1, b2, hf⟩ := Option.bind_eq_some_iff.mp hf
  refine SX36_77 b2 dX36_readPattern_2 rfl ?_
  refine w_aload_n dX36_readPattern_5 rfl rfl ?_
  refine w_aload_n dX36_readPattern_6 rfl rfl ?_
  obtain ⟨_, b3, hf⟩ := Option.bind_eq_some_iff.mp hf
  refine x_cnI hf (e_stV (Yc := YX36_look) (ci := 35) (av := []) (st := [.ref this]) dX36_readPattern_7 q5012 mX36_look rfl (k_ok_some b3).1 (k_ok_some b3).2) mX36_look.2.2.1 mX36_look.2.2.2.2.1 (Nat.le_of_ble_eq_true rfl) (Nat.le_of_ble_eq_true rfl) (fun q hq => pX36_look (by omega) hq) (fun q4 hf => ?_)
  refine w_bipush dX36_readPattern_10 (v := 46) (by decide) ?_
  refine w_icmp_ne 19 dX36_readPattern_12 (by decide) (fun c5 => ?_) (fun c5 => ?_)
  · replace hf := (if_pos (show ¬ q4.1 = (46 : Int32) from c5)).symm.trans hf
    refine w_iconst dX36_readPattern_19 (v := 0) (by decide) ?_
    exact (pX36_readPattern_b20 hd hf).to ⟨rfl, trivial⟩
  · replace hf := (if_neg (show ¬ (¬ q4.1 = (46 : Int32)) from (fun z => z c5))).symm.trans hf
    refine w_iconst dX36_readPattern_15 (v := 1) (by decide) ?_
    refine w_goto 20 dX36_readPattern_16 (by decide) ?_
    exact (pX36_readPattern_b20 hd hf).to ⟨rfl, trivial⟩
abbrev cX36_fault : ByteArray := prog_40_method_10_code
def yX36_fault : MethodName := ⟨RX36, "fault", "(II)I"⟩
def YX36_fault : eY := (yX36_fault, cX36_fault, 2, (Option.some FieldType.int), [])
theorem mX36_fault : e_ms YX36_fault 2 := ⟨q5028, q467, q5029, by decide, by decide +kernel, (e_sig (by decide +kernel))⟩
theorem dX36_fault_0 : decode cX36_fault 0 = .ok (.ldc 105, 2) := dc_18 (a := 105) (by decide +kernel)
theorem dX36_fault_2 : decode cX36_fault 2 = .ok (.iload_n 0, 1) := dc_26 (by decide +kernel)
theorem dX36_fault_3 : decode cX36_fault 3 = .ok (.imul, 1) := dc_104 (by decide +kernel)
theorem dX36_fault_4 : decode cX36_fault 4 = .ok (.iload_n 1, 1) := dc_27 (by decide +kernel)
theorem dX36_fault_5 : decode cX36_fault 5 = .ok (.isub, 1) := dc_100 (by decide +kernel)
theorem dX36_fault_6 : decode cX36_fault 6 = .ok (.ireturn, 1) := dc_172 (by decide +kernel)
def fX36_fault (p0 : Int32) (p1 : Int32) (h : eH) : Option (Int32 × eH) :=
  some ((((-100000 : Int32) * p0) - p1), h)
theorem pX36_fault {w : eW} {d : Nat} (hd : 0 ≤ d) {p0 : Int32} {p1 : Int32} {h : eH} {q} (hf : fX36_fault p0 p1 h = some q) : wm w d YX36_fault [.int p0, .int p1] h (e_is (e_rn c_I q)) := by
  show wp w d YX36_fault 0 [some (.int p0), some (.int p1)] [] h _
  unfold fX36_fault at hf
  refine w_ldc dX36_fault_0 q5030 ?_
  refine w_iload_n dX36_fault_2 rfl rfl ?_
  refine w_imul dX36_fault_3 ?_
  refine w_iload_n dX36_fault_4 rfl rfl ?_
  refine w_isub dX36_fault_5 ?_
  cases hf
  exact w_iret dX36_fault_6 rfl rfl rfl
abbrev cX36_isThere : ByteArray := prog_40_method_8_code
def yX36_isThere : MethodName := ⟨RX36, "isThere", "(I)Z"⟩
def YX36_isThere : eY := (yX36_isThere, cX36_isThere, 5, (Option.some FieldType.boolean), [])
theorem mX36_isThere : e_mv YX36_isThere RX36 1 := ⟨q5033, qs227, q5034, by decide, by decide +kernel, (e_sig (by decide +kernel))⟩
theorem dX36_isThere_0 : decode cX36_isThere 0 = .ok (.aload_n 0, 1) := dc_42 (by decide +kernel)
theorem dX36_isThere_1 : decode cX36_isThere 1 = .ok (.getfield 24, 3) := dc_180 (a := 0) (b := 24) (n := 24) (by decide +kernel)
theorem dX36_isThere_4 : decode cX36_isThere 4 = .ok (.iload_n 1, 1) := dc_27 (by decide +kernel)
theorem dX36_isThere_5 : decode cX36_isThere 5 = .ok (.iaload, 1) := dc_46 (by decide +kernel)
theorem dX36_isThere_6 : decode cX36_isThere 6 = .ok (.istore_n 2, 1) := dc_61 (by decide +kernel)
theorem dX36_isThere_7 : decode cX36_isThere 7 = .ok (.aload_n 0, 1) := dc_42 (by decide +kernel)
theorem dX36_isThere_8 : decode cX36_isThere 8 = .ok (.getfield 24, 3) := dc_180 (a := 0) (b := 24) (n := 24) (by decide +kernel)
theorem dX36_isThere_11 : decode cX36_isThere 11 = .ok (.iload_n 1, 1) := dc_27 (by decide +kernel)
theorem dX36_isThere_12 : decode cX36_isThere 12 = .ok (.iconst 1, 1) := dc_4 (by decide +kernel)
theorem dX36_isThere_13 : decode cX36_isThere 13 = .ok (.iadd, 1) := dc_96 (by decide +kernel)
theorem dX36_isThere_14 : decode cX36_isThere 14 = .ok (.iaload, 1) := dc_46 (by decide +kernel)
theorem dX36_isThere_15 : decode cX36_isThere 15 = .ok (.iload_n 2, 1) := dc_28 (by decide +kernel)
theorem dX36_isThere_16 : decode cX36_isThere 16 = .ok (.isub, 1) := dc_100 (by decide +kernel)
theorem dX36_isThere_17 : decode cX36_isThere 17 = .ok (.aload_n 0, 1) := dc_42 (by decide +kernel)
theorem dX36_isThere_18 : decode cX36_isThere 18 = .ok (.getfield 77, 3) := dc_180 (a := 0) (b := 77) (n := 77) (by decide +kernel)
theorem dX36_isThere_21 : decode cX36_isThere 21 = .ok (.if_icmp .ne 29, 3) := dc_160 (a := 0) (b := 29) (v := 29) (by decide +kernel)
theorem dX36_isThere_24 : decode cX36_isThere 24 = .ok (.aload_n 0, 1) := dc_42 (by decide +kernel)
theorem dX36_isThere_25 : decode cX36_isThere 25 = .ok (.getfield 30, 3) := dc_180 (a := 0) (b := 30) (n := 30) (by decide +kernel)
theorem dX36_isThere_28 : decode cX36_isThere 28 = .ok (.iload_n 1, 1) := dc_27 (by decide +kernel)
theorem dX36_isThere_29 : decode cX36_isThere 29 = .ok (.baload, 1) := dc_51 (by decide +kernel)
theorem dX36_isThere_30 : decode cX36_isThere 30 = .ok (.aload_n 0, 1) := dc_42 (by decide +kernel)
theorem dX36_isThere_31 : decode cX36_isThere 31 = .ok (.getfield 84, 3) := dc_180 (a := 0) (b := 84) (n := 84) (by decide +kernel)
theorem dX36_isThere_34 : decode cX36_isThere 34 = .ok (.if_icmp .ne 16, 3) := dc_160 (a := 0) (b := 16) (v := 16) (by decide +kernel)
theorem dX36_isThere_37 : decode cX36_isThere 37 = .ok (.aload_n 0, 1) := dc_42 (by decide +kernel)
theorem dX36_isThere_38 : decode cX36_isThere 38 = .ok (.getfield 34, 3) := dc_180 (a := 0) (b := 34) (n := 34) (by decide +kernel)
theorem dX36_isThere_41 : decode cX36_isThere 41 = .ok (.iload_n 1, 1) := dc_27 (by decide +kernel)
theorem dX36_isThere_42 : decode cX36_isThere 42 = .ok (.baload, 1) := dc_51 (by decide +kernel)
theorem dX36_isThere_43 : decode cX36_isThere 43 = .ok (.aload_n 0, 1) := dc_42 (by decide +kernel)
theorem dX36_isThere_44 : decode cX36_isThere 44 = .ok (.getfield 88, 3) := dc_180 (a := 0) (b := 88) (n := 88) (by decide +kernel)
theorem dX36_isThere_47 : decode cX36_isThere 47 = .ok (.if_icmp .eq 5, 3) := dc_159 (a := 0) (b := 5) (v := 5) (by decide +kernel)
theorem dX36_isThere_50 : decode cX36_isThere 50 = .ok (.iconst 0, 1) := dc_3 (by decide +kernel)
theorem dX36_isThere_51 : decode cX36_isThere 51 = .ok (.ireturn, 1) := dc_172 (by decide +kernel)
theorem dX36_isThere_52 : decode cX36_isThere 52 = .ok (.iconst 1, 1) := dc_4 (by decide +kernel)
theorem dX36_isThere_53 : decode cX36_isThere 53 = .ok (.istore_n 3, 1) := dc_62 (by decide +kernel)
theorem dX36_isThere_54 : decode cX36_isThere 54 = .ok (.iconst 0, 1) := dc_3 (by decide +kernel)
theorem dX36_isThere_55 : decode cX36_isThere 55 = .ok (.istore 4, 2) := dc_54 (a := 4) (by decide +kernel)
theorem dX36_isThere_57 : decode cX36_isThere 57 = .ok (.iload 4, 2) := dc_21 (a := 4) (by decide +kernel)
theorem dX36_isThere_59 : decode cX36_isThere 59 = .ok (.aload_n 0, 1) := dc_42 (by decide +kernel)
theorem dX36_isThere_60 : decode cX36_isThere 60 = .ok (.getfield 77, 3) := dc_180 (a := 0) (b := 77) (n := 77) (by decide +kernel)
theorem dX36_isThere_63 : decode cX36_isThere 63 = .ok (.if_icmp .ge 38, 3) := dc_162 (a := 0) (b := 38) (v := 38) (by decide +kernel)
theorem dX36_isThere_66 : decode cX36_isThere 66 = .ok (.iload_n 3, 1) := dc_29 (by decide +kernel)
theorem dX36_isThere_67 : decode cX36_isThere 67 = .ok (.ifCond .eq 34, 3) := dc_153 (a := 0) (b := 34) (v := 34) (by decide +kernel)
theorem dX36_isThere_70 : decode cX36_isThere 70 = .ok (.aload_n 0, 1) := dc_42 (by decide +kernel)
theorem dX36_isThere_71 : decode cX36_isThere 71 = .ok (.getfield 37, 3) := dc_180 (a := 0) (b := 37) (n := 37) (by decide +kernel)
theorem dX36_isThere_74 : decode cX36_isThere 74 = .ok (.iload_n 2, 1) := dc_28 (by decide +kernel)
theorem dX36_isThere_75 : decode cX36_isThere 75 = .ok (.iload 4, 2) := dc_21 (a := 4) (by decide +kernel)
theorem dX36_isThere_77 : decode cX36_isThere 77 = .ok (.iadd, 1) := dc_96 (by decide +kernel)
theorem dX36_isThere_78 : decode cX36_isThere 78 = .ok (.iaload, 1) := dc_46 (by decide +kernel)
theorem dX36_isThere_79 : decode cX36_isThere 79 = .ok (.aload_n 0, 1) := dc_42 (by decide +kernel)
theorem dX36_isThere_80 : decode cX36_isThere 80 = .ok (.getfield 52, 3) := dc_180 (a := 0) (b := 52) (n := 52) (by decide +kernel)
theorem dX36_isThere_83 : decode cX36_isThere 83 = .ok (.iload 4, 2) := dc_21 (a := 4) (by decide +kernel)
theorem dX36_isThere_85 : decode cX36_isThere 85 = .ok (.iaload, 1) := dc_46 (by decide +kernel)
theorem dX36_isThere_86 : decode cX36_isThere 86 = .ok (.if_icmp .ne 7, 3) := dc_160 (a := 0) (b := 7) (v := 7) (by decide +kernel)
theorem dX36_isThere_89 : decode cX36_isThere 89 = .ok (.iconst 1, 1) := dc_4 (by decide +kernel)
theorem dX36_isThere_90 : decode cX36_isThere 90 = .ok (.goto 4, 3) := dc_167 (a := 0) (b := 4) (v := 4) (by decide +kernel)
theorem dX36_isThere_93 : decode cX36_isThere 93 = .ok (.iconst 0, 1) := dc_3 (by decide +kernel)
theorem dX36_isThere_94 : decode cX36_isThere 94 = .ok (.istore_n 3, 1) := dc_62 (by decide +kernel)
theorem dX36_isThere_95 : decode cX36_isThere 95 = .ok (.iinc 4 1, 3) := dc_132 (a := 4) (b := 1) (v := 1) (by decide +kernel)
theorem dX36_isThere_98 : decode cX36_isThere 98 = .ok (.goto (-41), 3) := dc_167 (a := 255) (b := 215) (v := -41) (by decide +kernel)
theorem dX36_isThere_101 : decode cX36_isThere 101 = .ok (.iload_n 3, 1) := dc_29 (by decide +kernel)
theorem dX36_isThere_102 : decode cX36_isThere 102 = .ok (.ireturn, 1) := dc_172 (by decide +kernel)
theorem GX36_88 {w : eW} {d : Nat} {Y : eY} {pc : Nat} {ls : eL} {st : List Value} {h : eH} {Q : eO → eH → Prop} {a : Nat} {x : Int32} (hf : g_I 35 h a 19 = some x) (hd : decode Y.2.1 pc = .ok (.getfield 88, 3)) (hY : Y.1.cls = RX36) (kk : wp w d Y (pc + 3) ls (.int x :: st) h Q) : wp w d Y pc ls (.ref a :: st) h Q := x_gI (ci := 35) (k := 19) hf hd rfl (by decide) (by rw [hY]; exact q4152) kk
def fX36_isThere_b50 (N : Nat)  (h : eH) : Option (Int32 × eH) :=
  some ((0 : Int32), h)
theorem pX36_isThere_b50 {w : eW} {d : Nat} (hd : 0 ≤ d) {N : Nat}  {h : eH} {q} (hf : fX36_isThere_b50 N h = some q) : wp w d YX36_isThere 50 [none, none, none, none, none] [] h (e_is (e_rn c_I q)) := by
  unfold fX36_isThere_b50 at hf
  refine w_iconst dX36_isThere_50 (v := 0) (by decide) ?_
  cases hf
  exact w_iret dX36_isThere_51 rfl rfl rfl
def fX36_isThere_b94 (N : Nat) (k57 : Nat → Int32 → Int32 → Int32 → eH → Option (Int32 × eH)) (l0 : Nat) (l2 : Int32) (l4 : Int32) (s0 : Int32) (h : eH) : Option (Int32 × eH) :=
  k57 l0 l2 s0 (l4 + (1 : Int32)) h
theorem pX36_isThere_b94 {w : eW} {d : Nat} (hd : 0 ≤ d) {N : Nat} {k57 : Nat → Int32 → Int32 → Int32 → eH → Option (Int32 × eH)} (hk57 : ∀ l0 l2 l3 l4 h q, k57 l0 l2 l3 l4 h = some q → wp w d YX36_isThere 57 [some (.ref l0), none, some (.int l2), some (.int l3), some (.int l4)] [] h (e_is (e_rn c_I q))) {l0 : Nat} {l2 : Int32} {l4 : Int32} {s0 : Int32} {h : eH} {q} (hf : fX36_isThere_b94 N k57 l0 l2 l4 s0 h = some q) : wp w d YX36_isThere 94 [some (.ref l0), none, some (.int l2), none, some (.int l4)] [.int s0] h (e_is (e_rn c_I q)) := by
  unfold fX36_isThere_b94 at hf
  refine w_istore_n dX36_isThere_94 rfl (by decide) (ls' := [some (.ref l0), none, some (.int l2), some (.int s0), some (.int l4)]) rfl ?_
  refine w_iinc dX36_isThere_95 (v := (l4 + (1 : Int32))) rfl rfl (by decide) (ls' := [some (.ref l0), none, some (.int l2), some (.int s0), some (.int (l4 + (1 : Int32)))]) rfl ?_
  refine w_goto 57 dX36_isThere_98 (by decide) ?_
  exact (hk57 _ _ _ _ _ _ hf).to ⟨rfl, rfl, rfl, rfl, trivial⟩
def fX36_isThere_b101 (N : Nat) (l3 : Int32) (h : eH) : Option (Int32 × eH) :=
  z_r l3 (l3, h)
theorem pX36_isThere_b101 {w : eW} {d : Nat} (hd : 0 ≤ d) {N : Nat} {l3 : Int32} {h : eH} {q} (hf : fX36_isThere_b101 N l3 h = some q) : wp w d YX36_isThere 101 [none, none, none, some (.int l3), none] [] h (e_is (e_rn c_I q)) := by
  unfold fX36_isThere_b101 at hf
  refine w_iload_n dX36_isThere_101 rfl rfl ?_
  obtain ⟨b1, rfl⟩ := z_r_some hf
  exact w_iret dX36_isThere_102 rfl b1 rfl
def fX36_isThere_b57 (N : Nat) : Nat → Nat → Int32 → Int32 → Int32 → eH → Option (Int32 × eH)
  | 0, _, _, _, _, _ => none
  | n + 1, l0, l2, l3, l4, h =>
    (g_I 35 h l0 17).bind fun x1 =>
    if x1 ≤ l4 then
      fX36_isThere_b101 N l3 h
    else
      if l3 = 0 then
        fX36_isThere_b101 N l3 h
      else
        (g_A 35 h l0 10).bind fun a5 =>
        (r_I 100 h a5 (l2 + l4)).bind fun x7 =>
        (g_A 35 h l0 20).bind fun a9 =>
        (r_I 100 h a9 l4).bind fun x11 =>
        if ¬ x7 = x11 then
          fX36_isThere_b94 N (fX36_isThere_b57 N n) l0 l2 l4 (0 : Int32) h
        else
          fX36_isThere_b94 N (fX36_isThere_b57 N n) l0 l2 l4 (1 : Int32) h
theorem pX36_isThere_b57 {w : eW} {d : Nat} (hd : 0 ≤ d) {N : Nat} : ∀ (n : Nat) l0 l2 l3 l4 h q, fX36_isThere_b57 N n l0 l2 l3 l4 h = some q → wp w d YX36_isThere 57 [some (.ref l0), none, some (.int l2), some (.int l3), some (.int l4)] [] h (e_is (e_rn c_I q)) := by
  intro n
  induction n with
  | zero => intro l0 l2 l3 l4 h q hf; simp [fX36_isThere_b57] at hf
  | succ n ih =>
    intro l0 l2 l3 l4 h q hf
    rw [fX36_isThere_b57] at hf
    refine w_iload dX36_isThere_57 rfl ?_
    refine w_aload_n dX36_isThere_59 rfl rfl ?_
    obtain ⟨x1, b2, hf⟩ := Option.bind_eq_some_iff.mp hf
    refine GX36_77 b2 dX36_isThere_60 rfl ?_
    refine w_icmp_ge 101 dX36_isThere_63 (by decide) (fun c3 => ?_) (fun c3 => ?_)
    · replace hf := (if_pos (show x1 ≤ l4 from c3)).symm.trans hf
      exact (pX36_isThere_b101 hd hf).to ⟨rfl, trivial⟩
    · replace hf := (if_neg (show ¬ (x1 ≤ l4) from c3)).symm.trans hf
      refine w_iload_n dX36_isThere_66 rfl rfl ?_
      refine w_if_eq 101 dX36_isThere_67 (by decide) (fun c4 => ?_) (fun c4 => ?_)
      · replace hf := (if_pos (show l3 = 0 from c4)).symm.trans hf
        exact (pX36_isThere_b101 hd hf).to ⟨rfl, trivial⟩
      · replace hf := (if_neg (show ¬ (l3 = 0) from c4)).symm.trans hf
        refine w_aload_n dX36_isThere_70 rfl rfl ?_
        obtain ⟨a5, b6, hf⟩ := Option.bind_eq_some_iff.mp hf
        refine GX36_37 b6 dX36_isThere_71 rfl ?_
        refine w_iload_n dX36_isThere_74 rfl rfl ?_
        refine w_iload dX36_isThere_75 rfl ?_
        refine w_iadd dX36_isThere_77 ?_
        obtain ⟨x7, b8, hf⟩ := Option.bind_eq_some_iff.mp hf
        refine x_rI b8 dX36_isThere_78 ?_
        refine w_aload_n dX36_isThere_79 rfl rfl ?_
        obtain ⟨a9, b10, hf⟩ := Option.bind_eq_some_iff.mp hf
        refine GX36_52 b10 dX36_isThere_80 rfl ?_
        refine w_iload dX36_isThere_83 rfl ?_
        obtain ⟨x11, b12, hf⟩ := Option.bind_eq_some_iff.mp hf
        refine x_rI b12 dX36_isThere_85 ?_
        refine w_icmp_ne 93 dX36_isThere_86 (by decide) (fun c13 => ?_) (fun c13 => ?_)
        · replace hf := (if_pos (show ¬ x7 = x11 from c13)).symm.trans hf
          refine w_iconst dX36_isThere_93 (v := 0) (by decide) ?_
          exact (pX36_isThere_b94 hd ih hf).to ⟨rfl, rfl, rfl, trivial⟩
        · replace hf := (if_neg (show ¬ (¬ x7 = x11) from (fun z => z c13))).symm.trans hf
          refine w_iconst dX36_isThere_89 (v := 1) (by decide) ?_
          refine w_goto 94 dX36_isThere_90 (by decide) ?_
          exact (pX36_isThere_b94 hd ih hf).to ⟨rfl, rfl, rfl, trivial⟩
def fX36_isThere (N : Nat) (this : Nat) (p0 : Int32) (h : eH) : Option (Int32 × eH) :=
  (g_A 35 h this 6).bind fun a1 =>
  (r_I 100 h a1 p0).bind fun x3 =>
  (g_A 35 h this 6).bind fun a5 =>
  (r_I 100 h a5 (p0 + (1 : Int32))).bind fun x7 =>
  (g_I 35 h this 17).bind fun x9 =>
  if ¬ (x7 - x3) = x9 then
    fX36_isThere_b50 N h
  else
    (g_A 35 h this 8).bind fun a12 =>
    (r_I 103 h a12 p0).bind fun x14 =>
    (g_I 35 h this 18).bind fun x16 =>
    if ¬ x14 = x16 then
      fX36_isThere_b50 N h
    else
      (g_A 35 h this 9).bind fun a19 =>
      (r_I 103 h a19 p0).bind fun x21 =>
      (g_I 35 h this 19).bind fun x23 =>
      if x21 = x23 then
        fX36_isThere_b57 N N this x3 (1 : Int32) (0 : Int32) h
      else
        fX36_isThere_b50 N h
theorem pX36_isThere {w : eW} {d : Nat} (hd : 0 ≤ d) {N : Nat} {this : Nat} {p0 : Int32} {h : eH} {q} (hf : fX36_isThere N this p0 h = some q) : wm w d YX36_isThere [.ref this, .int p0] h (e_is (e_rn c_I q)) := by
  show wp w d YX36_isThere 0 [some (.ref this), some (.int p0), none, none, none] [] h _
  unfold fX36_isThere at hf
  refine w_aload_n dX36_isThere_0 rfl rfl ?_
  obtain ⟨a1, b2, hf⟩ := Option.bind_eq_some_iff.mp hf
  refine GX36_24 b2 dX36_isThere_1 rfl ?_
  refine w_iload_n dX36_isThere_4 rfl rfl ?_
  obtain ⟨x3, b4, hf⟩ := Option.bind_eq_some_iff.mp hf
  refine x_rI b4 dX36_isThere_5 ?_
  refine w_istore_n dX36_isThere_6 rfl (by decide) (ls' := [some (.ref this), some (.int p0), some (.int x3), none, none]) rfl ?_
  refine w_aload_n dX36_isThere_7 rfl rfl ?_
  obtain ⟨a5, b6, hf⟩ := Option.bind_eq_some_iff.mp hf
  refine GX36_24 b6 dX36_isThere_8 rfl ?_
  refine w_iload_n dX36_isThere_11 rfl rfl ?_
  refine w_iconst dX36_isThere_12 (v := 1) (by decide) ?_
  refine w_iadd dX36_isThere_13 ?_
  obtain ⟨x7, b8, hf⟩ := Option.bind_eq_some_iff.mp hf
  refine x_rI b8 dX36_isThere_14 ?_
  refine w_iload_n dX36_isThere_15 rfl rfl ?_
  refine w_isub dX36_isThere_16 ?_
  refine w_aload_n dX36_isThere_17 rfl rfl ?_
  obtain ⟨x9, b10, hf⟩ := Option.bind_eq_some_iff.mp hf
  refine GX36_77 b10 dX36_isThere_18 rfl ?_
  refine w_icmp_ne 50 dX36_isThere_21 (by decide) (fun c11 => ?_) (fun c11 => ?_)
  · replace hf := (if_pos (show ¬ (x7 - x3) = x9 from c11)).symm.trans hf
    exact (pX36_isThere_b50 hd hf).to trivial
  · replace hf := (if_neg (show ¬ (¬ (x7 - x3) = x9) from (fun z => z c11))).symm.trans hf
    refine w_aload_n dX36_isThere_24 rfl rfl ?_
    obtain ⟨a12, b13, hf⟩ := Option.bind_eq_some_iff.mp hf
    refine GX36_30 b13 dX36_isThere_25 rfl ?_
    refine w_iload_n dX36_isThere_28 rfl rfl ?_
    obtain ⟨x14, b15, hf⟩ := Option.bind_eq_some_iff.mp hf
    refine x_rZ b15 dX36_isThere_29 ?_
    refine w_aload_n dX36_isThere_30 rfl rfl ?_
    obtain ⟨x16, b17, hf⟩ := Option.bind_eq_some_iff.mp hf
    refine GX36_84 b17 dX36_isThere_31 rfl ?_
    refine w_icmp_ne 50 dX36_isThere_34 (by decide) (fun c18 => ?_) (fun c18 => ?_)
    · replace hf := (if_pos (show ¬ x14 = x16 from c18)).symm.trans hf
      exact (pX36_isThere_b50 hd hf).to trivial
    · replace hf := (if_neg (show ¬ (¬ x14 = x16) from (fun z => z c18))).symm.trans hf
      refine w_aload_n dX36_isThere_37 rfl rfl ?_
      obtain ⟨a19, b20, hf⟩ := Option.bind_eq_some_iff.mp hf
      refine GX36_34 b20 dX36_isThere_38 rfl ?_
      refine w_iload_n dX36_isThere_41 rfl rfl ?_
      obtain ⟨x21, b22, hf⟩ := Option.bind_eq_some_iff.mp hf
      refine x_rZ b22 dX36_isThere_42 ?_
      refine w_aload_n dX36_isThere_43 rfl rfl ?_
      obtain ⟨x23, b24, hf⟩ := Option.bind_eq_some_iff.mp hf
      refine GX36_88 b24 dX36_isThere_44 rfl ?_
      refine w_icmp_eq 52 dX36_isThere_47 (by decide) (fun c25 => ?_) (fun c25 => ?_)
      · replace hf := (if_pos (show x21 = x23 from c25)).symm.trans hf
        refine w_iconst dX36_isThere_52 (v := 1) (by decide) ?_
        refine w_istore_n dX36_isThere_53 rfl (by decide) (ls' := [some (.ref this), some (.int p0), some (.int x3), some (.int (1 : Int32)), none]) rfl ?_
        refine w_iconst dX36_isThere_54 (v := 0) (by decide) ?_
        refine w_istore dX36_isThere_55 (by decide) (ls' := [some (.ref this), some (.int p0), some (.int x3), some (.int (1 : Int32)), some (.int (0 : Int32))]) rfl ?_
        exact (pX36_isThere_b57 hd N _ _ _ _ _ _ hf).to ⟨rfl, rfl, rfl, rfl, trivial⟩
      · replace hf := (if_neg (show ¬ (x21 = x23) from c25)).symm.trans hf
        exact (pX36_isThere_b50 hd hf).to trivial
abbrev cX36_addPattern : ByteArray := prog_40_method_9_code
def yX36_addPattern : MethodName := ⟨RX36, "addPattern", "()V"⟩
def YX36_addPattern : eY := (yX36_addPattern, cX36_addPattern, 4, none, [])
theorem mX36_addPattern : e_mv YX36_addPattern RX36 0 := ⟨q5037, qs228, q5038, by decide, by decide +kernel, (e_sig (by decide +kernel))⟩
theorem dX36_addPattern_0 : decode cX36_addPattern 0 = .ok (.aload_n 0, 1) := dc_42 (by decide +kernel)
theorem dX36_addPattern_1 : decode cX36_addPattern 1 = .ok (.getfield 24, 3) := dc_180 (a := 0) (b := 24) (n := 24) (by decide +kernel)
theorem dX36_addPattern_4 : decode cX36_addPattern 4 = .ok (.aload_n 0, 1) := dc_42 (by decide +kernel)
theorem dX36_addPattern_5 : decode cX36_addPattern 5 = .ok (.getfield 102, 3) := dc_180 (a := 0) (b := 102) (n := 102) (by decide +kernel)
theorem dX36_addPattern_8 : decode cX36_addPattern 8 = .ok (.iaload, 1) := dc_46 (by decide +kernel)
theorem dX36_addPattern_9 : decode cX36_addPattern 9 = .ok (.istore_n 1, 1) := dc_60 (by decide +kernel)
theorem dX36_addPattern_10 : decode cX36_addPattern 10 = .ok (.aload_n 0, 1) := dc_42 (by decide +kernel)
theorem dX36_addPattern_11 : decode cX36_addPattern 11 = .ok (.getfield 27, 3) := dc_180 (a := 0) (b := 27) (n := 27) (by decide +kernel)
theorem dX36_addPattern_14 : decode cX36_addPattern 14 = .ok (.aload_n 0, 1) := dc_42 (by decide +kernel)
theorem dX36_addPattern_15 : decode cX36_addPattern 15 = .ok (.getfield 102, 3) := dc_180 (a := 0) (b := 102) (n := 102) (by decide +kernel)
theorem dX36_addPattern_18 : decode cX36_addPattern 18 = .ok (.iaload, 1) := dc_46 (by decide +kernel)
theorem dX36_addPattern_19 : decode cX36_addPattern 19 = .ok (.istore_n 2, 1) := dc_61 (by decide +kernel)
theorem dX36_addPattern_20 : decode cX36_addPattern 20 = .ok (.iconst 0, 1) := dc_3 (by decide +kernel)
theorem dX36_addPattern_21 : decode cX36_addPattern 21 = .ok (.istore_n 3, 1) := dc_62 (by decide +kernel)
theorem dX36_addPattern_22 : decode cX36_addPattern 22 = .ok (.iload_n 3, 1) := dc_29 (by decide +kernel)
theorem dX36_addPattern_23 : decode cX36_addPattern 23 = .ok (.aload_n 0, 1) := dc_42 (by decide +kernel)
theorem dX36_addPattern_24 : decode cX36_addPattern 24 = .ok (.getfield 77, 3) := dc_180 (a := 0) (b := 77) (n := 77) (by decide +kernel)
theorem dX36_addPattern_27 : decode cX36_addPattern 27 = .ok (.if_icmp .ge 23, 3) := dc_162 (a := 0) (b := 23) (v := 23) (by decide +kernel)
theorem dX36_addPattern_30 : decode cX36_addPattern 30 = .ok (.aload_n 0, 1) := dc_42 (by decide +kernel)
theorem dX36_addPattern_31 : decode cX36_addPattern 31 = .ok (.getfield 37, 3) := dc_180 (a := 0) (b := 37) (n := 37) (by decide +kernel)
theorem dX36_addPattern_34 : decode cX36_addPattern 34 = .ok (.iload_n 1, 1) := dc_27 (by decide +kernel)
theorem dX36_addPattern_35 : decode cX36_addPattern 35 = .ok (.iload_n 3, 1) := dc_29 (by decide +kernel)
theorem dX36_addPattern_36 : decode cX36_addPattern 36 = .ok (.iadd, 1) := dc_96 (by decide +kernel)
theorem dX36_addPattern_37 : decode cX36_addPattern 37 = .ok (.aload_n 0, 1) := dc_42 (by decide +kernel)
theorem dX36_addPattern_38 : decode cX36_addPattern 38 = .ok (.getfield 52, 3) := dc_180 (a := 0) (b := 52) (n := 52) (by decide +kernel)
theorem dX36_addPattern_41 : decode cX36_addPattern 41 = .ok (.iload_n 3, 1) := dc_29 (by decide +kernel)
theorem dX36_addPattern_42 : decode cX36_addPattern 42 = .ok (.iaload, 1) := dc_46 (by decide +kernel)
theorem dX36_addPattern_43 : decode cX36_addPattern 43 = .ok (.iastore, 1) := dc_79 (by decide +kernel)
theorem dX36_addPattern_44 : decode cX36_addPattern 44 = .ok (.iinc 3 1, 3) := dc_132 (a := 3) (b := 1) (v := 1) (by decide +kernel)
theorem dX36_addPattern_47 : decode cX36_addPattern 47 = .ok (.goto (-25), 3) := dc_167 (a := 255) (b := 231) (v := -25) (by decide +kernel)
theorem dX36_addPattern_50 : decode cX36_addPattern 50 = .ok (.iconst 0, 1) := dc_3 (by decide +kernel)
theorem dX36_addPattern_51 : decode cX36_addPattern 51 = .ok (.istore_n 3, 1) := dc_62 (by decide +kernel)
theorem dX36_addPattern_52 : decode cX36_addPattern 52 = .ok (.iload_n 3, 1) := dc_29 (by decide +kernel)
theorem dX36_addPattern_53 : decode cX36_addPattern 53 = .ok (.aload_n 0, 1) := dc_42 (by decide +kernel)
theorem dX36_addPattern_54 : decode cX36_addPattern 54 = .ok (.getfield 77, 3) := dc_180 (a := 0) (b := 77) (n := 77) (by decide +kernel)
theorem dX36_addPattern_57 : decode cX36_addPattern 57 = .ok (.if_icmp .gt 23, 3) := dc_163 (a := 0) (b := 23) (v := 23) (by decide +kernel)
theorem dX36_addPattern_60 : decode cX36_addPattern 60 = .ok (.aload_n 0, 1) := dc_42 (by decide +kernel)
theorem dX36_addPattern_61 : decode cX36_addPattern 61 = .ok (.getfield 40, 3) := dc_180 (a := 0) (b := 40) (n := 40) (by decide +kernel)
theorem dX36_addPattern_64 : decode cX36_addPattern 64 = .ok (.iload_n 2, 1) := dc_28 (by decide +kernel)
theorem dX36_addPattern_65 : decode cX36_addPattern 65 = .ok (.iload_n 3, 1) := dc_29 (by decide +kernel)
theorem dX36_addPattern_66 : decode cX36_addPattern 66 = .ok (.iadd, 1) := dc_96 (by decide +kernel)
theorem dX36_addPattern_67 : decode cX36_addPattern 67 = .ok (.aload_n 0, 1) := dc_42 (by decide +kernel)
theorem dX36_addPattern_68 : decode cX36_addPattern 68 = .ok (.getfield 56, 3) := dc_180 (a := 0) (b := 56) (n := 56) (by decide +kernel)
theorem dX36_addPattern_71 : decode cX36_addPattern 71 = .ok (.iload_n 3, 1) := dc_29 (by decide +kernel)
theorem dX36_addPattern_72 : decode cX36_addPattern 72 = .ok (.iaload, 1) := dc_46 (by decide +kernel)
theorem dX36_addPattern_73 : decode cX36_addPattern 73 = .ok (.iastore, 1) := dc_79 (by decide +kernel)
theorem dX36_addPattern_74 : decode cX36_addPattern 74 = .ok (.iinc 3 1, 3) := dc_132 (a := 3) (b := 1) (v := 1) (by decide +kernel)
theorem dX36_addPattern_77 : decode cX36_addPattern 77 = .ok (.goto (-25), 3) := dc_167 (a := 255) (b := 231) (v := -25) (by decide +kernel)
theorem dX36_addPattern_80 : decode cX36_addPattern 80 = .ok (.aload_n 0, 1) := dc_42 (by decide +kernel)
theorem dX36_addPattern_81 : decode cX36_addPattern 81 = .ok (.getfield 30, 3) := dc_180 (a := 0) (b := 30) (n := 30) (by decide +kernel)
theorem dX36_addPattern_84 : decode cX36_addPattern 84 = .ok (.aload_n 0, 1) := dc_42 (by decide +kernel)
theorem dX36_addPattern_85 : decode cX36_addPattern 85 = .ok (.getfield 102, 3) := dc_180 (a := 0) (b := 102) (n := 102) (by decide +kernel)
theorem dX36_addPattern_88 : decode cX36_addPattern 88 = .ok (.aload_n 0, 1) := dc_42 (by decide +kernel)
theorem dX36_addPattern_89 : decode cX36_addPattern 89 = .ok (.getfield 84, 3) := dc_180 (a := 0) (b := 84) (n := 84) (by decide +kernel)
theorem dX36_addPattern_92 : decode cX36_addPattern 92 = .ok (.bastore, 1) := dc_84 (by decide +kernel)
theorem dX36_addPattern_93 : decode cX36_addPattern 93 = .ok (.aload_n 0, 1) := dc_42 (by decide +kernel)
theorem dX36_addPattern_94 : decode cX36_addPattern 94 = .ok (.getfield 34, 3) := dc_180 (a := 0) (b := 34) (n := 34) (by decide +kernel)
theorem dX36_addPattern_97 : decode cX36_addPattern 97 = .ok (.aload_n 0, 1) := dc_42 (by decide +kernel)
theorem dX36_addPattern_98 : decode cX36_addPattern 98 = .ok (.getfield 102, 3) := dc_180 (a := 0) (b := 102) (n := 102) (by decide +kernel)
theorem dX36_addPattern_101 : decode cX36_addPattern 101 = .ok (.aload_n 0, 1) := dc_42 (by decide +kernel)
theorem dX36_addPattern_102 : decode cX36_addPattern 102 = .ok (.getfield 88, 3) := dc_180 (a := 0) (b := 88) (n := 88) (by decide +kernel)
theorem dX36_addPattern_105 : decode cX36_addPattern 105 = .ok (.bastore, 1) := dc_84 (by decide +kernel)
theorem dX36_addPattern_106 : decode cX36_addPattern 106 = .ok (.aload_n 0, 1) := dc_42 (by decide +kernel)
theorem dX36_addPattern_107 : decode cX36_addPattern 107 = .ok (.dup, 1) := dc_89 (by decide +kernel)
theorem dX36_addPattern_108 : decode cX36_addPattern 108 = .ok (.getfield 102, 3) := dc_180 (a := 0) (b := 102) (n := 102) (by decide +kernel)
theorem dX36_addPattern_111 : decode cX36_addPattern 111 = .ok (.iconst 1, 1) := dc_4 (by decide +kernel)
theorem dX36_addPattern_112 : decode cX36_addPattern 112 = .ok (.iadd, 1) := dc_96 (by decide +kernel)
theorem dX36_addPattern_113 : decode cX36_addPattern 113 = .ok (.putfield 102, 3) := dc_181 (a := 0) (b := 102) (n := 102) (by decide +kernel)
theorem dX36_addPattern_116 : decode cX36_addPattern 116 = .ok (.aload_n 0, 1) := dc_42 (by decide +kernel)
theorem dX36_addPattern_117 : decode cX36_addPattern 117 = .ok (.getfield 24, 3) := dc_180 (a := 0) (b := 24) (n := 24) (by decide +kernel)
theorem dX36_addPattern_120 : decode cX36_addPattern 120 = .ok (.aload_n 0, 1) := dc_42 (by decide +kernel)
theorem dX36_addPattern_121 : decode cX36_addPattern 121 = .ok (.getfield 102, 3) := dc_180 (a := 0) (b := 102) (n := 102) (by decide +kernel)
theorem dX36_addPattern_124 : decode cX36_addPattern 124 = .ok (.iload_n 1, 1) := dc_27 (by decide +kernel)
theorem dX36_addPattern_125 : decode cX36_addPattern 125 = .ok (.aload_n 0, 1) := dc_42 (by decide +kernel)
theorem dX36_addPattern_126 : decode cX36_addPattern 126 = .ok (.getfield 77, 3) := dc_180 (a := 0) (b := 77) (n := 77) (by decide +kernel)
theorem dX36_addPattern_129 : decode cX36_addPattern 129 = .ok (.iadd, 1) := dc_96 (by decide +kernel)
theorem dX36_addPattern_130 : decode cX36_addPattern 130 = .ok (.iastore, 1) := dc_79 (by decide +kernel)
theorem dX36_addPattern_131 : decode cX36_addPattern 131 = .ok (.aload_n 0, 1) := dc_42 (by decide +kernel)
theorem dX36_addPattern_132 : decode cX36_addPattern 132 = .ok (.getfield 27, 3) := dc_180 (a := 0) (b := 27) (n := 27) (by decide +kernel)
theorem dX36_addPattern_135 : decode cX36_addPattern 135 = .ok (.aload_n 0, 1) := dc_42 (by decide +kernel)
theorem dX36_addPattern_136 : decode cX36_addPattern 136 = .ok (.getfield 102, 3) := dc_180 (a := 0) (b := 102) (n := 102) (by decide +kernel)
theorem dX36_addPattern_139 : decode cX36_addPattern 139 = .ok (.iload_n 2, 1) := dc_28 (by decide +kernel)
theorem dX36_addPattern_140 : decode cX36_addPattern 140 = .ok (.aload_n 0, 1) := dc_42 (by decide +kernel)
theorem dX36_addPattern_141 : decode cX36_addPattern 141 = .ok (.getfield 77, 3) := dc_180 (a := 0) (b := 77) (n := 77) (by decide +kernel)
theorem dX36_addPattern_144 : decode cX36_addPattern 144 = .ok (.iadd, 1) := dc_96 (by decide +kernel)
theorem dX36_addPattern_145 : decode cX36_addPattern 145 = .ok (.iconst 1, 1) := dc_4 (by decide +kernel)
theorem dX36_addPattern_146 : decode cX36_addPattern 146 = .ok (.iadd, 1) := dc_96 (by decide +kernel)
theorem dX36_addPattern_147 : decode cX36_addPattern 147 = .ok (.iastore, 1) := dc_79 (by decide +kernel)
theorem dX36_addPattern_148 : decode cX36_addPattern 148 = .ok (.return_, 1) := dc_177 (by decide +kernel)
def fX36_addPattern_b52 (N : Nat) : Nat → Nat → Int32 → Int32 → Int32 → eH → Option (Unit × eH)
  | 0, _, _, _, _, _ => none
  | n + 1, l0, l1, l2, l3, h =>
    (g_I 35 h l0 17).bind fun x1 =>
    if x1 < l3 then
      (g_A 35 h l0 8).bind fun a4 =>
      (g_I 35 h l0 5).bind fun x6 =>
      (g_I 35 h l0 18).bind fun x8 =>
      (q_V 103 h a4 x6 (.int (x8 &&& 1))).bind fun h10 =>
      (g_A 35 h10 l0 9).bind fun a12 =>
      (g_I 35 h10 l0 5).bind fun x14 =>
      (g_I 35 h10 l0 19).bind fun x16 =>
      (q_V 103 h10 a12 x14 (.int (x16 &&& 1))).bind fun h18 =>
      (g_I 35 h18 l0 5).bind fun x20 =>
      (p_V 35 h18 l0 5 (.int (x20 + (1 : Int32)))).bind fun h22 =>
      (g_A 35 h22 l0 6).bind fun a24 =>
      (g_I 35 h22 l0 5).bind fun x26 =>
      (g_I 35 h22 l0 17).bind fun x28 =>
      (q_V 100 h22 a24 x26 (.int (l1 + x28))).bind fun h30 =>
      (g_A 35 h30 l0 7).bind fun a32 =>
      (g_I 35 h30 l0 5).bind fun x34 =>
      (g_I 35 h30 l0 17).bind fun x36 =>
      (q_V 100 h30 a32 x34 (.int ((l2 + x36) + (1 : Int32)))).bind fun h38 =>
      some ((), h38)
    else
      (g_A 35 h l0 11).bind fun a40 =>
      (g_A 35 h l0 21).bind fun a42 =>
      (r_I 100 h a42 l3).bind fun x44 =>
      (q_V 100 h a40 (l2 + l3) (.int x44)).bind fun h46 =>
      fX36_addPattern_b52 N n l0 l1 l2 (l3 + (1 : Int32)) h46
theorem pX36_addPattern_b52 {w : eW} {d : Nat} (hd : 0 ≤ d) {N : Nat} : ∀ (n : Nat) l0 l1 l2 l3 h q, fX36_addPattern_b52 N n l0 l1 l2 l3 h = some q → wp w d YX36_addPattern 52 [some (.ref l0), some (.int l1), some (.int l2), some (.int l3)] [] h (e_is (e_rn c_V q)) := by
  intro n
  induction n with
  | zero => intro l0 l1 l2 l3 h q hf; simp [fX36_addPattern_b52] at hf
  | succ n ih =>
    intro l0 l1 l2 l3 h q hf
    rw [fX36_addPattern_b52] at hf
    refine w_iload_n dX36_addPattern_52 rfl rfl ?_
    refine w_aload_n dX36_addPattern_53 rfl rfl ?_
    obtain ⟨x1, b2, hf⟩ := Option.bind_eq_some_iff.mp hf
    refine GX36_77 b2 dX36_addPattern_54 rfl ?_
    refine w_icmp_gt 80 dX36_addPattern_57 (by decide) (fun c3 => ?_) (fun c3 => ?_)
    · replace hf := (if_pos (show x1 < l3 from c3)).symm.trans hf
      refine w_aload_n dX36_addPattern_80 rfl rfl ?_
      obtain ⟨a4, b5, hf⟩ := Option.bind_eq_some_iff.mp hf
      refine GX36_30 b5 dX36_addPattern_81 rfl ?_
      refine w_aload_n dX36_addPattern_84 rfl rfl ?_
      obtain ⟨x6, b7, hf⟩ := Option.bind_eq_some_iff.mp hf
      refine GX36_102 b7 dX36_addPattern_85 rfl ?_
      refine w_aload_n dX36_addPattern_88 rfl rfl ?_
      obtain ⟨x8, b9, hf⟩ := Option.bind_eq_some_iff.mp hf
      refine GX36_84 b9 dX36_addPattern_89 rfl ?_
      obtain ⟨h10, b11, hf⟩ := Option.bind_eq_some_iff.mp hf
      refine x_qZ b11 dX36_addPattern_92 ?_
      refine w_aload_n dX36_addPattern_93 rfl rfl ?_
      obtain ⟨a12, b13, hf⟩ := Option.bind_eq_some_iff.mp hf
      refine GX36_34 b13 dX36_addPattern_94 rfl ?_
      refine w_aload_n dX36_addPattern_97 rfl rfl ?_
      obtain ⟨x14, b15, hf⟩ := Option.bind_eq_some_iff.mp hf
      refine GX36_102 b15 dX36_addPattern_98 rfl ?_
      refine w_aload_n dX36_addPattern_101 rfl rfl ?_
      obtain ⟨x16, b17, hf⟩ := Option.bind_eq_some_iff.mp hf
      refine GX36_88 b17 dX36_addPattern_102 rfl ?_
      obtain ⟨h18, b19, hf⟩ := Option.bind_eq_some_iff.mp hf
      refine x_qZ b19 dX36_addPattern_105 ?_
      refine w_aload_n dX36_addPattern_106 rfl rfl ?_
      refine w_dup dX36_addPattern_107 rfl ?_
      obtain ⟨x20, b21, hf⟩ := Option.bind_eq_some_iff.mp hf
      refine GX36_102 b21 dX36_addPattern_108 rfl ?_
      refine w_iconst dX36_addPattern_111 (v := 1) (by decide) ?_
      refine w_iadd dX36_addPattern_112 ?_
      obtain ⟨h22, b23, hf⟩ := Option.bind_eq_some_iff.mp hf
      refine SX36_102 b23 dX36_addPattern_113 rfl ?_
      refine w_aload_n dX36_addPattern_116 rfl rfl ?_
      obtain ⟨a24, b25, hf⟩ := Option.bind_eq_some_iff.mp hf
      refine GX36_24 b25 dX36_addPattern_117 rfl ?_
      refine w_aload_n dX36_addPattern_120 rfl rfl ?_
      obtain ⟨x26, b27, hf⟩ := Option.bind_eq_some_iff.mp hf
      refine GX36_102 b27 dX36_addPattern_121 rfl ?_
      refine w_iload_n dX36_addPattern_124 rfl rfl ?_
      refine w_aload_n dX36_addPattern_125 rfl rfl ?_
      obtain ⟨x28, b29, hf⟩ := Option.bind_eq_some_iff.mp hf
      refine GX36_77 b29 dX36_addPattern_126 rfl ?_
      refine w_iadd dX36_addPattern_129 ?_
      obtain ⟨h30, b31, hf⟩ := Option.bind_eq_some_iff.mp hf
      refine x_qI b31 dX36_addPattern_130 ?_
      refine w_aload_n dX36_addPattern_131 rfl rfl ?_
      obtain ⟨a32, b33, hf⟩ := Option.bind_eq_some_iff.mp hf
      refine GX36_27 b33 dX36_addPattern_132 rfl ?_
      refine w_aload_n dX36_addPattern_135 rfl rfl ?_
      obtain ⟨x34, b35, hf⟩ := Option.bind_eq_some_iff.mp hf
      refine GX36_102 b35 dX36_addPattern_136 rfl ?_
      refine w_iload_n dX36_addPattern_139 rfl rfl ?_
      refine w_aload_n dX36_addPattern_140 rfl rfl ?_
      obtain ⟨x36, b37, hf⟩ := Option.bind_eq_some_iff.mp hf
      refine GX36_77 b37 dX36_addPattern_141 rfl ?_
      refine w_iadd dX36_addPattern_144 ?_
      refine w_iconst dX36_addPattern_145 (v := 1) (by decide) ?_
      refine w_iadd dX36_addPattern_146 ?_
      obtain ⟨h38, b39, hf⟩ := Option.bind_eq_some_iff.mp hf
      refine x_qI b39 dX36_addPattern_147 ?_
      cases hf
      exact w_vret dX36_addPattern_148 rfl rfl
    · replace hf := (if_neg (show ¬ (x1 < l3) from c3)).symm.trans hf
      refine w_aload_n dX36_addPattern_60 rfl rfl ?_
      obtain ⟨a40, b41, hf⟩ := Option.bind_eq_some_iff.mp hf
      refine GX36_40 b41 dX36_addPattern_61 rfl ?_
      refine w_iload_n dX36_addPattern_64 rfl rfl ?_
      refine w_iload_n dX36_addPattern_65 rfl rfl ?_
      refine w_iadd dX36_addPattern_66 ?_
      refine w_aload_n dX36_addPattern_67 rfl rfl ?_
      obtain ⟨a42, b43, hf⟩ := Option.bind_eq_some_iff.mp hf
      refine GX36_56 b43 dX36_addPattern_68 rfl ?_
      refine w_iload_n dX36_addPattern_71 rfl rfl ?_
      obtain ⟨x44, b45, hf⟩ := Option.bind_eq_some_iff.mp hf
      refine x_rI b45 dX36_addPattern_72 ?_
      obtain ⟨h46, b47, hf⟩ := Option.bind_eq_some_iff.mp hf
      refine x_qI b47 dX36_addPattern_73 ?_
      refine w_iinc dX36_addPattern_74 (v := (l3 + (1 : Int32))) rfl rfl (by decide) (ls' := [some (.ref l0), some (.int l1), some (.int l2), some (.int (l3 + (1 : Int32)))]) rfl ?_
      refine w_goto 52 dX36_addPattern_77 (by decide) ?_
      exact (ih _ _ _ _ _ _ hf).to ⟨rfl, rfl, rfl, rfl, trivial⟩
def fX36_addPattern_b22 (N : Nat) : Nat → Nat → Int32 → Int32 → Int32 → eH → Option (Unit × eH)
  | 0, _, _, _, _, _ => none
  | n + 1, l0, l1, l2, l3, h =>
    (g_I 35 h l0 17).bind fun x1 =>
    if x1 ≤ l3 then
      fX36_addPattern_b52 N N l0 l1 l2 (0 : Int32) h
    else
      (g_A 35 h l0 10).bind fun a4 =>
      (g_A 35 h l0 20).bind fun a6 =>
      (r_I 100 h a6 l3).bind fun x8 =>
      (q_V 100 h a4 (l1 + l3) (.int x8)).bind fun h10 =>
      fX36_addPattern_b22 N n l0 l1 l2 (l3 + (1 : Int32)) h10
theorem pX36_addPattern_b22 {w : eW} {d : Nat} (hd : 0 ≤ d) {N : Nat} : ∀ (n : Nat) l0 l1 l2 l3 h q, fX36_addPattern_b22 N n l0 l1 l2 l3 h = some q → wp w d YX36_addPattern 22 [some (.ref l0), some (.int l1), some (.int l2), some (.int l3)] [] h (e_is (e_rn c_V q)) := by
  intro n
  induction n with
  | zero => intro l0 l1 l2 l3 h q hf; simp [fX36_addPattern_b22] at hf
  | succ n ih =>
    intro l0 l1 l2 l3 h q hf
    rw [fX36_addPattern_b22] at hf
    refine w_iload_n dX36_addPattern_22 rfl rfl ?_
    refine w_aload_n dX36_addPattern_23 rfl rfl ?_
    obtain ⟨x1, b2, hf⟩ := Option.bind_eq_some_iff.mp hf
    refine GX36_77 b2 dX36_addPattern_24 rfl ?_
    refine w_icmp_ge 50 dX36_addPattern_27 (by decide) (fun c3 => ?_) (fun c3 => ?_)
    · replace hf := (if_pos (show x1 ≤ l3 from c3)).symm.trans hf
      refine w_iconst dX36_addPattern_50 (v := 0) (by decide) ?_
      refine w_istore_n dX36_addPattern_51 rfl (by decide) (ls' := [some (.ref l0), some (.int l1), some (.int l2), some (.int (0 : Int32))]) rfl ?_
      exact (pX36_addPattern_b52 hd N _ _ _ _ _ _ hf).to ⟨rfl, rfl, rfl, rfl, trivial⟩
    · replace hf := (if_neg (show ¬ (x1 ≤ l3) from c3)).symm.trans hf
      refine w_aload_n dX36_addPattern_30 rfl rfl ?_
      obtain ⟨a4, b5, hf⟩ := Option.bind_eq_some_iff.mp hf
      refine GX36_37 b5 dX36_addPattern_31 rfl ?_
      refine w_iload_n dX36_addPattern_34 rfl rfl ?_
      refine w_iload_n dX36_addPattern_35 rfl rfl ?_
      refine w_iadd dX36_addPattern_36 ?_
      refine w_aload_n dX36_addPattern_37 rfl rfl ?_
      obtain ⟨a6, b7, hf⟩ := Option.bind_eq_some_iff.mp hf
      refine GX36_52 b7 dX36_addPattern_38 rfl ?_
      refine w_iload_n dX36_addPattern_41 rfl rfl ?_
      obtain ⟨x8, b9, hf⟩ := Option.bind_eq_some_iff.mp hf
      refine x_rI b9 dX36_addPattern_42 ?_
      obtain ⟨h10, b11, hf⟩ := Option.bind_eq_some_iff.mp hf
      refine x_qI b11 dX36_addPattern_43 ?_
      refine w_iinc dX36_addPattern_44 (v := (l3 + (1 : Int32))) rfl rfl (by decide) (ls' := [some (.ref l0), some (.int l1), some (.int l2), some (.int (l3 + (1 : Int32)))]) rfl ?_
      refine w_goto 22 dX36_addPattern_47 (by decide) ?_
      exact (ih _ _ _ _ _ _ hf).to ⟨rfl, rfl, rfl, rfl, trivial⟩
def fX36_addPattern (N : Nat) (this : Nat) (h : eH) : Option (Unit × eH) :=
  (g_A 35 h this 6).bind fun a1 =>
  (g_I 35 h this 5).bind fun x3 =>
  (r_I 100 h a1 x3).bind fun x5 =>
  (g_A 35 h this 7).bind fun a7 =>
  (g_I 35 h this 5).bind fun x9 =>
  (r_I 100 h a7 x9).bind fun x11 =>
  fX36_addPattern_b22 N N this x5 x11 (0 : Int32) h
theorem pX36_addPattern {w : eW} {d : Nat} (hd : 0 ≤ d) {N : Nat} {this : Nat} {h : eH} {q} (hf : fX36_addPattern N this h = some q) : wm w d YX36_addPattern [.ref this] h (e_is (e_rn c_V q)) := by
  show wp w d YX36_addPattern 0 [some (.ref this), none, none, none] [] h _
  unfold fX36_addPattern at hf
  refine w_aload_n dX36_addPattern_0 rfl rfl ?_
  obtain ⟨a1, b2, hf⟩ := Option.bind_eq_some_iff.mp hf
  refine GX36_24 b2 dX36_addPattern_1 rfl ?_
  refine w_aload_n dX36_addPattern_4 rfl rfl ?_
  obtain ⟨x3, b4, hf⟩ := Option.bind_eq_some_iff.mp hf
  refine GX36_102 b4 dX36_addPattern_5 rfl ?_
  obtain ⟨x5, b6, hf⟩ := Option.bind_eq_some_iff.mp hf
  refine x_rI b6 dX36_addPattern_8 ?_
  refine w_istore_n dX36_addPattern_9 rfl (by decide) (ls' := [some (.ref this), some (.int x5), none, none]) rfl ?_
  refine w_aload_n dX36_addPattern_10 rfl rfl ?_
  obtain ⟨a7, b8, hf⟩ := Option.bind_eq_some_iff.mp hf
  refine GX36_27 b8 dX36_addPattern_11 rfl ?_
  refine w_aload_n dX36_addPattern_14 rfl rfl ?_
  obtain ⟨x9, b10, hf⟩ := Option.bind_eq_some_iff.mp hf
  refine GX36_102 b10 dX36_addPattern_15 rfl ?_
  obtain ⟨x11, b12, hf⟩ := Option.bind_eq_some_iff.mp hf
  refine x_rI b12 dX36_addPattern_18 ?_
  refine w_istore_n dX36_addPattern_19 rfl (by decide) (ls' := [some (.ref this), some (.int x5), some (.int x11), none]) rfl ?_
  refine w_iconst dX36_addPattern_20 (v := 0) (by decide) ?_
  refine w_istore_n dX36_addPattern_21 rfl (by decide) (ls' := [some (.ref this), some (.int x5), some (.int x11), some (.int (0 : Int32))]) rfl ?_
  exact (pX36_addPattern_b22 hd N _ _ _ _ _ _ hf).to ⟨rfl, rfl, rfl, rfl, trivial⟩
abbrev cX36_readPatterns : ByteArray := prog_40_method_11_code
def yX36_readPatterns : MethodName := ⟨RX36, "readPatterns", "()I"⟩
def YX36_readPatterns : eY := (yX36_readPatterns, cX36_readPatterns, 3, (Option.some FieldType.int), [])
theorem mX36_readPatterns : e_mv YX36_readPatterns RX36 0 := ⟨q5002, qs221, q5003, by decide, by decide +kernel, (e_sig (by decide +kernel))⟩
theorem dX36_readPatterns_0 : decode cX36_readPatterns 0 = .ok (.aload_n 0, 1) := dc_42 (by decide +kernel)
theorem dX36_readPatterns_1 : decode cX36_readPatterns 1 = .ok (.iconst 0, 1) := dc_3 (by decide +kernel)
theorem dX36_readPatterns_2 : decode cX36_readPatterns 2 = .ok (.putfield 71, 3) := dc_181 (a := 0) (b := 71) (n := 71) (by decide +kernel)
theorem dX36_readPatterns_5 : decode cX36_readPatterns 5 = .ok (.aload_n 0, 1) := dc_42 (by decide +kernel)
theorem dX36_readPatterns_6 : decode cX36_readPatterns 6 = .ok (.invokevirtual 106, 3) := dc_182 (a := 0) (b := 106) (n := 106) (by decide +kernel)
theorem dX36_readPatterns_9 : decode cX36_readPatterns 9 = .ok (.aload_n 0, 1) := dc_42 (by decide +kernel)
theorem dX36_readPatterns_10 : decode cX36_readPatterns 10 = .ok (.getfield 71, 3) := dc_180 (a := 0) (b := 71) (n := 71) (by decide +kernel)
theorem dX36_readPatterns_13 : decode cX36_readPatterns 13 = .ok (.aload_n 0, 1) := dc_42 (by decide +kernel)
theorem dX36_readPatterns_14 : decode cX36_readPatterns 14 = .ok (.getfield 74, 3) := dc_180 (a := 0) (b := 74) (n := 74) (by decide +kernel)
theorem dX36_readPatterns_17 : decode cX36_readPatterns 17 = .ok (.if_icmp .ge 116, 3) := dc_162 (a := 0) (b := 116) (v := 116) (by decide +kernel)
theorem dX36_readPatterns_20 : decode cX36_readPatterns 20 = .ok (.aload_n 0, 1) := dc_42 (by decide +kernel)
theorem dX36_readPatterns_21 : decode cX36_readPatterns 21 = .ok (.getfield 71, 3) := dc_180 (a := 0) (b := 71) (n := 71) (by decide +kernel)
theorem dX36_readPatterns_24 : decode cX36_readPatterns 24 = .ok (.istore_n 1, 1) := dc_60 (by decide +kernel)
theorem dX36_readPatterns_25 : decode cX36_readPatterns 25 = .ok (.aload_n 0, 1) := dc_42 (by decide +kernel)
theorem dX36_readPatterns_26 : decode cX36_readPatterns 26 = .ok (.invokevirtual 109, 3) := dc_182 (a := 0) (b := 109) (n := 109) (by decide +kernel)
theorem dX36_readPatterns_29 : decode cX36_readPatterns 29 = .ok (.ifCond .ne 12, 3) := dc_154 (a := 0) (b := 12) (v := 12) (by decide +kernel)
theorem dX36_readPatterns_32 : decode cX36_readPatterns 32 = .ok (.iconst 1, 1) := dc_4 (by decide +kernel)
theorem dX36_readPatterns_33 : decode cX36_readPatterns 33 = .ok (.aload_n 0, 1) := dc_42 (by decide +kernel)
theorem dX36_readPatterns_34 : decode cX36_readPatterns 34 = .ok (.getfield 71, 3) := dc_180 (a := 0) (b := 71) (n := 71) (by decide +kernel)
theorem dX36_readPatterns_37 : decode cX36_readPatterns 37 = .ok (.invokestatic 112, 3) := dc_184 (a := 0) (b := 112) (n := 112) (by decide +kernel)
theorem dX36_readPatterns_40 : decode cX36_readPatterns 40 = .ok (.ireturn, 1) := dc_172 (by decide +kernel)
theorem dX36_readPatterns_41 : decode cX36_readPatterns 41 = .ok (.aload_n 0, 1) := dc_42 (by decide +kernel)
theorem dX36_readPatterns_42 : decode cX36_readPatterns 42 = .ok (.getfield 77, 3) := dc_180 (a := 0) (b := 77) (n := 77) (by decide +kernel)
theorem dX36_readPatterns_45 : decode cX36_readPatterns 45 = .ok (.bipush 63, 2) := dc_16 (a := 63) (v := 63) (by decide +kernel)
theorem dX36_readPatterns_47 : decode cX36_readPatterns 47 = .ok (.if_icmp .le 9, 3) := dc_164 (a := 0) (b := 9) (v := 9) (by decide +kernel)
theorem dX36_readPatterns_50 : decode cX36_readPatterns 50 = .ok (.iconst 2, 1) := dc_5 (by decide +kernel)
theorem dX36_readPatterns_51 : decode cX36_readPatterns 51 = .ok (.iload_n 1, 1) := dc_27 (by decide +kernel)
theorem dX36_readPatterns_52 : decode cX36_readPatterns 52 = .ok (.invokestatic 112, 3) := dc_184 (a := 0) (b := 112) (n := 112) (by decide +kernel)
theorem dX36_readPatterns_55 : decode cX36_readPatterns 55 = .ok (.ireturn, 1) := dc_172 (by decide +kernel)
theorem dX36_readPatterns_56 : decode cX36_readPatterns 56 = .ok (.iconst 0, 1) := dc_3 (by decide +kernel)
theorem dX36_readPatterns_57 : decode cX36_readPatterns 57 = .ok (.istore_n 2, 1) := dc_61 (by decide +kernel)
theorem dX36_readPatterns_58 : decode cX36_readPatterns 58 = .ok (.iload_n 2, 1) := dc_28 (by decide +kernel)
theorem dX36_readPatterns_59 : decode cX36_readPatterns 59 = .ok (.aload_n 0, 1) := dc_42 (by decide +kernel)
theorem dX36_readPatterns_60 : decode cX36_readPatterns 60 = .ok (.getfield 102, 3) := dc_180 (a := 0) (b := 102) (n := 102) (by decide +kernel)
theorem dX36_readPatterns_63 : decode cX36_readPatterns 63 = .ok (.if_icmp .ge 23, 3) := dc_162 (a := 0) (b := 23) (v := 23) (by decide +kernel)
theorem dX36_readPatterns_66 : decode cX36_readPatterns 66 = .ok (.aload_n 0, 1) := dc_42 (by decide +kernel)
theorem dX36_readPatterns_67 : decode cX36_readPatterns 67 = .ok (.iload_n 2, 1) := dc_28 (by decide +kernel)
theorem dX36_readPatterns_68 : decode cX36_readPatterns 68 = .ok (.invokevirtual 116, 3) := dc_182 (a := 0) (b := 116) (n := 116) (by decide +kernel)
theorem dX36_readPatterns_71 : decode cX36_readPatterns 71 = .ok (.ifCond .eq 9, 3) := dc_153 (a := 0) (b := 9) (v := 9) (by decide +kernel)
theorem dX36_readPatterns_74 : decode cX36_readPatterns 74 = .ok (.iconst 3, 1) := dc_6 (by decide +kernel)
theorem dX36_readPatterns_75 : decode cX36_readPatterns 75 = .ok (.iload_n 1, 1) := dc_27 (by decide +kernel)
theorem dX36_readPatterns_76 : decode cX36_readPatterns 76 = .ok (.invokestatic 112, 3) := dc_184 (a := 0) (b := 112) (n := 112) (by decide +kernel)
theorem dX36_readPatterns_79 : decode cX36_readPatterns 79 = .ok (.ireturn, 1) := dc_172 (by decide +kernel)
theorem dX36_readPatterns_80 : decode cX36_readPatterns 80 = .ok (.iinc 2 1, 3) := dc_132 (a := 2) (b := 1) (v := 1) (by decide +kernel)
theorem dX36_readPatterns_83 : decode cX36_readPatterns 83 = .ok (.goto (-25), 3) := dc_167 (a := 255) (b := 231) (v := -25) (by decide +kernel)
theorem dX36_readPatterns_86 : decode cX36_readPatterns 86 = .ok (.aload_n 0, 1) := dc_42 (by decide +kernel)
theorem dX36_readPatterns_87 : decode cX36_readPatterns 87 = .ok (.getfield 102, 3) := dc_180 (a := 0) (b := 102) (n := 102) (by decide +kernel)
theorem dX36_readPatterns_90 : decode cX36_readPatterns 90 = .ok (.sipush 1000, 3) := dc_17 (a := 3) (b := 232) (v := 1000) (by decide +kernel)
theorem dX36_readPatterns_93 : decode cX36_readPatterns 93 = .ok (.if_icmp .eq 23, 3) := dc_159 (a := 0) (b := 23) (v := 23) (by decide +kernel)
theorem dX36_readPatterns_96 : decode cX36_readPatterns 96 = .ok (.aload_n 0, 1) := dc_42 (by decide +kernel)
theorem dX36_readPatterns_97 : decode cX36_readPatterns 97 = .ok (.getfield 24, 3) := dc_180 (a := 0) (b := 24) (n := 24) (by decide +kernel)
theorem dX36_readPatterns_100 : decode cX36_readPatterns 100 = .ok (.aload_n 0, 1) := dc_42 (by decide +kernel)
theorem dX36_readPatterns_101 : decode cX36_readPatterns 101 = .ok (.getfield 102, 3) := dc_180 (a := 0) (b := 102) (n := 102) (by decide +kernel)
theorem dX36_readPatterns_104 : decode cX36_readPatterns 104 = .ok (.iaload, 1) := dc_46 (by decide +kernel)
theorem dX36_readPatterns_105 : decode cX36_readPatterns 105 = .ok (.aload_n 0, 1) := dc_42 (by decide +kernel)
theorem dX36_readPatterns_106 : decode cX36_readPatterns 106 = .ok (.getfield 77, 3) := dc_180 (a := 0) (b := 77) (n := 77) (by decide +kernel)
theorem dX36_readPatterns_109 : decode cX36_readPatterns 109 = .ok (.iadd, 1) := dc_96 (by decide +kernel)
theorem dX36_readPatterns_110 : decode cX36_readPatterns 110 = .ok (.sipush 8000, 3) := dc_17 (a := 31) (b := 64) (v := 8000) (by decide +kernel)
theorem dX36_readPatterns_113 : decode cX36_readPatterns 113 = .ok (.if_icmp .le 9, 3) := dc_164 (a := 0) (b := 9) (v := 9) (by decide +kernel)
theorem dX36_readPatterns_116 : decode cX36_readPatterns 116 = .ok (.iconst 4, 1) := dc_7 (by decide +kernel)
theorem dX36_readPatterns_117 : decode cX36_readPatterns 117 = .ok (.iload_n 1, 1) := dc_27 (by decide +kernel)
theorem dX36_readPatterns_118 : decode cX36_readPatterns 118 = .ok (.invokestatic 112, 3) := dc_184 (a := 0) (b := 112) (n := 112) (by decide +kernel)
theorem dX36_readPatterns_121 : decode cX36_readPatterns 121 = .ok (.ireturn, 1) := dc_172 (by decide +kernel)
theorem dX36_readPatterns_122 : decode cX36_readPatterns 122 = .ok (.aload_n 0, 1) := dc_42 (by decide +kernel)
theorem dX36_readPatterns_123 : decode cX36_readPatterns 123 = .ok (.invokevirtual 119, 3) := dc_182 (a := 0) (b := 119) (n := 119) (by decide +kernel)
theorem dX36_readPatterns_126 : decode cX36_readPatterns 126 = .ok (.aload_n 0, 1) := dc_42 (by decide +kernel)
theorem dX36_readPatterns_127 : decode cX36_readPatterns 127 = .ok (.invokevirtual 106, 3) := dc_182 (a := 0) (b := 106) (n := 106) (by decide +kernel)
theorem dX36_readPatterns_130 : decode cX36_readPatterns 130 = .ok (.goto (-121), 3) := dc_167 (a := 255) (b := 135) (v := -121) (by decide +kernel)
theorem dX36_readPatterns_133 : decode cX36_readPatterns 133 = .ok (.iconst 0, 1) := dc_3 (by decide +kernel)
theorem dX36_readPatterns_134 : decode cX36_readPatterns 134 = .ok (.ireturn, 1) := dc_172 (by decide +kernel)
def fX36_readPatterns_b116 (N : Nat) (l1 : Int32) (h : eH) : Option (Int32 × eH) :=
  (fX36_fault (4 : Int32) l1 h).bind fun q1 =>
  some (q1.1, q1.2)
theorem pX36_readPatterns_b116 {w : eW} {d : Nat} (hd : 2 ≤ d + 1) {N : Nat} {l1 : Int32} {h : eH} {q} (hf : fX36_readPatterns_b116 N l1 h = some q) : wp w (d + 1) YX36_readPatterns 116 [none, some (.int l1), none] [] h (e_is (e_rn c_I q)) := by
  unfold fX36_readPatterns_b116 at hf
  refine w_iconst dX36_readPatterns_116 (v := 4) (by decide) ?_
  refine w_iload_n dX36_readPatterns_117 rfl rfl ?_
  refine x_cnI hf (e_stS (Yc := YX36_fault) (av := [.int (4 : Int32), .int l1]) (st := []) dX36_readPatterns_118 q5027 mX36_fault) mX36_fault.2.2.1 mX36_fault.2.2.2.2.1 (Nat.le_of_ble_eq_true rfl) (Nat.le_of_ble_eq_true rfl) (fun q hq => pX36_fault (by omega) hq) (fun q1 hf => ?_)
  cases hf
  exact w_iret dX36_readPatterns_121 rfl rfl rfl
def fX36_readPatterns_b58 (N : Nat) (k9 : Nat → eH → Option (Int32 × eH)) : Nat → Nat → Int32 → Int32 → eH → Option (Int32 × eH)
  | 0, _, _, _, _ => none
  | n + 1, l0, l1, l2, h =>
    (g_I 35 h l0 5).bind fun x1 =>
    if x1 ≤ l2 then
      (g_I 35 h l0 5).bind fun x4 =>
      if x4 = (1000 : Int32) then
        fX36_readPatterns_b116 N l1 h
      else
        (g_A 35 h l0 6).bind fun a7 =>
        (g_I 35 h l0 5).bind fun x9 =>
        (r_I 100 h a7 x9).bind fun x11 =>
        (g_I 35 h l0 17).bind fun x13 =>
        if (x11 + x13) ≤ (8000 : Int32) then
          (k_ok 35 h l0).bind fun _ =>
          (fX36_addPattern N l0 h).bind fun q17 =>
          (k_ok 35 q17.2 l0).bind fun _ =>
          (fX36_spaces N l0 q17.2).bind fun q19 =>
          k9 l0 q19.2
        else
          fX36_readPatterns_b116 N l1 h
    else
      (k_ok 35 h l0).bind fun _ =>
      (fX36_isThere N l0 l2 h).bind fun q21 =>
      if q21.1 = 0 then
        fX36_readPatterns_b58 N k9 n l0 l1 (l2 + (1 : Int32)) q21.2
      else
        (fX36_fault (3 : Int32) l1 q21.2).bind fun q23 =>
        some (q23.1, q23.2)
theorem pX36_readPatterns_b58 {w : eW} {d : Nat} (hd : 2 ≤ d + 1) {N : Nat} {k9 : Nat → eH → Option (Int32 × eH)} (hk9 : ∀ l0 h q, k9 l0 h = some q → wp w (d + 1) YX36_readPatterns 9 [some (.ref l0), none, none] [] h (e_is (e_rn c_I q))) : ∀ (n : Nat) l0 l1 l2 h q, fX36_readPatterns_b58 N k9 n l0 l1 l2 h = some q → wp w (d + 1) YX36_readPatterns 58 [some (.ref l0), some (.int l1), some (.int l2)] [] h (e_is (e_rn c_I q)) := by
  intro n
  induction n with
  | zero => intro l0 l1 l2 h q hf; simp [fX36_readPatterns_b58] at hf
  | succ n ih =>
    intro l0 l1 l2 h q hf
    rw [fX36_readPatterns_b58] at hf
    refine w_iload_n dX36_readPatterns_58 rfl rfl ?_
    refine w_aload_n dX36_readPatterns_59 rfl rfl ?_
    obtain ⟨x1, b2, hf⟩ := Option.bind_eq_some_iff.mp hf
    refine GX36_102 b2 dX36_readPatterns_60 rfl ?_
    refine w_icmp_ge 86 dX36_readPatterns_63 (by decide) (fun c3 => ?_) (fun c3 => ?_)
    · replace hf := (if_pos (show x1 ≤ l2 from c3)).symm.trans hf
      refine w_aload_n dX36_readPatterns_86 rfl rfl ?_
      obtain ⟨x4, b5, hf⟩ := Option.bind_eq_some_iff.mp hf
      refine GX36_102 b5 dX36_readPatterns_87 rfl ?_
      refine w_sipush dX36_readPatterns_90 (v := 1000) (by decide) ?_
      refine w_icmp_eq 116 dX36_readPatterns_93 (by decide) (fun c6 => ?_) (fun c6 => ?_)
      · replace hf := (if_pos (show x4 = (1000 : Int32) from c6)).symm.trans hf
        exact (pX36_readPatterns_b116 hd hf).to ⟨rfl, trivial⟩
      · replace hf := (if_neg (show ¬ (x4 = (1000 : Int32)) from c6)).symm.trans hf
        refine w_aload_n dX36_readPatterns_96 rfl rfl ?_
        obtain ⟨a7, b8, hf⟩ := Option.bind_eq_some_iff.mp hf
        refine GX36_24 b8 dX36_readPatterns_97 rfl ?_
        refine w_aload_n dX36_readPatterns_100 rfl rfl ?_
        obtain ⟨x9, b10, hf⟩ := Option.bind_eq_some_iff.mp hf
        refine GX36_102 b10 dX36_readPatterns_101 rfl ?_
        obtain ⟨x11, b12, hf⟩ := Option.bind_eq_some_iff.mp hf
        refine x_rI b12 dX36_readPatterns_104 ?_
        refine w_aload_n dX36_readPatterns_105 rfl rfl ?_
        obtain ⟨x13, b14, hf⟩ := Option.bind_eq_some_iff.mp hf
        refine GX36_77 b14 dX36_readPatterns_106 rfl ?_
        refine w_iadd dX36_readPatterns_109 ?_
        refine w_sipush dX36_readPatterns_110 (v := 8000) (by decide) ?_
        refine w_icmp_le 122 dX36_readPatterns_113 (by decide) (fun c15 => ?_) (fun c15 => ?_)
        · replace hf := (if_pos (show (x11 + x13) ≤ (8000 : Int32) from c15)).symm.trans hf
          refine w_aload_n dX36_readPatterns_122 rfl rfl ?_
          obtain ⟨_, b16, hf⟩ := Option.bind_eq_some_iff.mp hf
          refine x_cnV hf (e_stV (Yc := YX36_addPattern) (ci := 35) (av := []) (st := []) dX36_readPatterns_123 q5035 mX36_addPattern rfl (k_ok_some b16).1 (k_ok_some b16).2) mX36_addPattern.2.2.1 mX36_addPattern.2.2.2.2.1 (Nat.le_of_ble_eq_true rfl) (Nat.le_of_ble_eq_true rfl) (fun q hq => pX36_addPattern (by omega) hq) (fun q17 hf => ?_)
          refine w_aload_n dX36_readPatterns_126 rfl rfl ?_
          obtain ⟨_, b18, hf⟩ := Option.bind_eq_some_iff.mp hf
          refine x_cnV hf (e_stV (Yc := YX36_spaces) (ci := 35) (av := []) (st := []) dX36_readPatterns_127 q5004 mX36_spaces rfl (k_ok_some b18).1 (k_ok_some b18).2) mX36_spaces.2.2.1 mX36_spaces.2.2.2.2.1 (Nat.le_of_ble_eq_true rfl) (Nat.le_of_ble_eq_true rfl) (fun q hq => pX36_spaces (by omega) hq) (fun q19 hf => ?_)
          refine w_goto 9 dX36_readPatterns_130 (by decide) ?_
          exact (hk9 _ _ _ hf).to ⟨rfl, trivial⟩
        · replace hf := (if_neg (show ¬ ((x11 + x13) ≤ (8000 : Int32)) from c15)).symm.trans hf
          exact (pX36_readPatterns_b116 hd hf).to ⟨rfl, trivial⟩
    · replace hf := (if_neg (show ¬ (x1 ≤ l2) from c3)).symm.trans hf
      refine w_aload_n dX36_readPatterns_66 rfl rfl ?_
      refine w_iload_n dX36_readPatterns_67 rfl rfl ?_
      obtain ⟨_, b20, hf⟩ := Option.bind_eq_some_iff.mp hf
      refine x_cnI hf (e_stV (Yc := YX36_isThere) (ci := 35) (av := [.int l2]) (st := []) dX36_readPatterns_68 q5031 mX36_isThere rfl (k_ok_some b20).1 (k_ok_some b20).2) mX36_isThere.2.2.1 mX36_isThere.2.2.2.2.1 (Nat.le_of_ble_eq_true rfl) (Nat.le_of_ble_eq_true rfl) (fun q hq => pX36_isThere (by omega) hq) (fun q21 hf => ?_)
      refine w_if_eq 80 dX36_readPatterns_71 (by decide) (fun c22 => ?_) (fun c22 => ?_)
      · replace hf := (if_pos (show q21.1 = 0 from c22)).symm.trans hf
        refine w_iinc dX36_readPatterns_80 (v := (l2 + (1 : Int32))) rfl rfl (by decide) (ls' := [some (.ref l0), some (.int l1), some (.int (l2 + (1 : Int32)))]) rfl ?_
        refine w_goto 58 dX36_readPatterns_83 (by decide) ?_
        exact (ih _ _ _ _ _ hf).to ⟨rfl, rfl, rfl, trivial⟩
      · replace hf := (if_neg (show ¬ (q21.1 = 0) from c22)).symm.trans hf
        refine w_iconst dX36_readPatterns_74 (v := 3) (by decide) ?_
        refine w_iload_n dX36_readPatterns_75 rfl rfl ?_
        refine x_cnI hf (e_stS (Yc := YX36_fault) (av := [.int (3 : Int32), .int l1]) (st := []) dX36_readPatterns_76 q5027 mX36_fault) mX36_fault.2.2.1 mX36_fault.2.2.2.2.1 (Nat.le_of_ble_eq_true rfl) (Nat.le_of_ble_eq_true rfl) (fun q hq => pX36_fault (by omega) hq) (fun q23 hf => ?_)
        cases hf
        exact w_iret dX36_readPatterns_79 rfl rfl rfl
def fX36_readPatterns_b9 (N : Nat) : Nat → Nat → eH → Option (Int32 × eH)
  | 0, _, _ => none
  | n + 1, l0, h =>
    (g_I 35 h l0 16).bind fun x1 =>
    (g_I 35 h l0 3).bind fun x3 =>
    if x3 ≤ x1 then
      some ((0 : Int32), h)
    else
      (g_I 35 h l0 16).bind fun x6 =>
      (k_ok 35 h l0).bind fun _ =>
      (fX36_readPattern N l0 h).bind fun q9 =>
      if ¬ q9.1 = 0 then
        (g_I 35 q9.2 l0 17).bind fun x11 =>
        if x11 ≤ (63 : Int32) then
          fX36_readPatterns_b58 N (fX36_readPatterns_b9 N n) N l0 x6 (0 : Int32) q9.2
        else
          (fX36_fault (2 : Int32) x6 q9.2).bind fun q14 =>
          some (q14.1, q14.2)
      else
        (g_I 35 q9.2 l0 16).bind fun x15 =>
        (fX36_fault (1 : Int32) x15 q9.2).bind fun q17 =>
        some (q17.1, q17.2)
theorem pX36_readPatterns_b9 {w : eW} {d : Nat} (hd : 2 ≤ d + 1) {N : Nat} : ∀ (n : Nat) l0 h q, fX36_readPatterns_b9 N n l0 h = some q → wp w (d + 1) YX36_readPatterns 9 [some (.ref l0), none, none] [] h (e_is (e_rn c_I q)) := by
  intro n
  induction n with
  | zero => intro l0 h q hf; simp [fX36_readPatterns_b9] at hf
  | succ n ih =>
    intro l0 h q hf
    rw [fX36_readPatterns_b9] at hf
    refine w_aload_n dX36_readPatterns_9 rfl rfl ?_
    obtain ⟨x1, b2, hf⟩ := Option.bind_eq_some_iff.mp hf
    refine GX36_71 b2 dX36_readPatterns_10 rfl ?_
    refine w_aload_n dX36_readPatterns_13 rfl rfl ?_
    obtain ⟨x3, b4, hf⟩ := Option.bind_eq_some_iff.mp hf
    refine GX36_74 b4 dX36_readPatterns_14 rfl ?_
    refine w_icmp_ge 133 dX36_readPatterns_17 (by decide) (fun c5 => ?_) (fun c5 => ?_)
    · replace hf := (if_pos (show x3 ≤ x1 from c5)).symm.trans hf
      refine w_iconst dX36_readPatterns_133 (v := 0) (by decide) ?_
      cases hf
      exact w_iret dX36_readPatterns_134 rfl rfl rfl
    · replace hf := (if_neg (show ¬ (x3 ≤ x1) from c5)).symm.trans hf
      refine w_aload_n dX36_readPatterns_20 rfl rfl ?_
      obtain ⟨x6, b7, hf⟩ := Option.bind_eq_some_iff.mp hf
      refine GX36_71 b7 dX36_readPatterns_21 rfl ?_
      refine w_istore_n dX36_readPatterns_24 rfl (by decide) (ls' := [some (.ref l0), some (.int x6), none]) rfl ?_
      refine w_aload_n dX36_readPatterns_25 rfl rfl ?_
      obtain ⟨_, b8, hf⟩ := Option.bind_eq_some_iff.mp hf
      refine x_cnI hf (e_stV (Yc := YX36_readPattern) (ci := 35) (av := []) (st := []) dX36_readPatterns_26 q5008 mX36_readPattern rfl (k_ok_some b8).1 (k_ok_some b8).2) mX36_readPattern.2.2.1 mX36_readPattern.2.2.2.2.1 (Nat.le_of_ble_eq_true rfl) (Nat.le_of_ble_eq_true rfl) (fun q hq => pX36_readPattern (by omega) hq) (fun q9 hf => ?_)
      refine w_if_ne 41 dX36_readPatterns_29 (by decide) (fun c10 => ?_) (fun c10 => ?_)
      · replace hf := (if_pos (show ¬ q9.1 = 0 from c10)).symm.trans hf
        refine w_aload_n dX36_readPatterns_41 rfl rfl ?_
        obtain ⟨x11, b12, hf⟩ := Option.bind_eq_some_iff.mp hf
        refine GX36_77 b12 dX36_readPatterns_42 rfl ?_
        refine w_bipush dX36_readPatterns_45 (v := 63) (by decide) ?_
        refine w_icmp_le 56 dX36_readPatterns_47 (by decide) (fun c13 => ?_) (fun c13 => ?_)
        · replace hf := (if_pos (show x11 ≤ (63 : Int32) from c13)).symm.trans hf
          refine w_iconst dX36_readPatterns_56 (v := 0) (by decide) ?_
          refine w_istore_n dX36_readPatterns_57 rfl (by decide) (ls' := [some (.ref l0), some (.int x6), some (.int (0 : Int32))]) rfl ?_
          exact (pX36_readPatterns_b58 hd ih N _ _ _ _ _ hf).to ⟨rfl, rfl, rfl, trivial⟩
        · replace hf := (if_neg (show ¬ (x11 ≤ (63 : Int32)) from c13)).symm.trans hf
          refine w_iconst dX36_readPatterns_50 (v := 2) (by decide) ?_
          refine w_iload_n dX36_readPatterns_51 rfl rfl ?_
          refine x_cnI hf (e_stS (Yc := YX36_fault) (av := [.int (2 : Int32), .int x6]) (st := []) dX36_readPatterns_52 q5027 mX36_fault) mX36_fault.2.2.1 mX36_fault.2.2.2.2.1 (Nat.le_of_ble_eq_true rfl) (Nat.le_of_ble_eq_true rfl) (fun q hq => pX36_fault (by omega) hq) (fun q14 hf => ?_)
          cases hf
          exact w_iret dX36_readPatterns_55 rfl rfl rfl
      · replace hf := (if_neg (show ¬ (¬ q9.1 = 0) from (fun z => z c10))).symm.trans hf
        refine w_iconst dX36_readPatterns_32 (v := 1) (by decide) ?_
        refine w_aload_n dX36_readPatterns_33 rfl rfl ?_
        obtain ⟨x15, b16, hf⟩ := Option.bind_eq_some_iff.mp hf
        refine GX36_71 b16 dX36_readPatterns_34 rfl ?_
        refine x_cnI hf (e_stS (Yc := YX36_fault) (av := [.int (1 : Int32), .int x15]) (st := []) dX36_readPatterns_37 q5027 mX36_fault) mX36_fault.2.2.1 mX36_fault.2.2.2.2.1 (Nat.le_of_ble_eq_true rfl) (Nat.le_of_ble_eq_true rfl) (fun q hq => pX36_fault (by omega) hq) (fun q17 hf => ?_)
        cases hf
        exact w_iret dX36_readPatterns_40 rfl rfl rfl
def fX36_readPatterns (N : Nat) (this : Nat) (h : eH) : Option (Int32 × eH) :=
  (p_V 35 h this 16 (.int (0 : Int32))).bind fun h1 =>
  (k_ok 35 h1 this).bind fun _ =>
  (fX36_spaces N this h1).bind fun q4 =>
  fX36_readPatterns_b9 N N this q4.2
theorem pX36_readPatterns {w : eW} {d : Nat} (hd : 2 ≤ d) {N : Nat} {this : Nat} {h : eH} {q} (hf : fX36_readPatterns N this h = some q) : wm w d YX36_readPatterns [.ref this] h (e_is (e_rn c_I q)) := by
  obtain ⟨d, rfl⟩ : ∃ e, d = e + 1 := ⟨d - 1, by omega⟩
  show wp w (d + 1) YX36_readPatterns 0 [some (.ref this), none, none] [] h _
  unfold fX36_readPatterns at hf
  refine w_aload_n dX36_readPatterns_0 rfl rfl ?_
  refine w_iconst dX36_readPatterns_1 (v := 0) (by decide) ?_
  obtain ⟨h1, b2, hf⟩ := Option.bind_eq_some_iff.mp hf
  refine SX36_71 b2 dX36_readPatterns_2 rfl ?_
  refine w_aload_n dX36_readPatterns_5 rfl rfl ?_
  obtain ⟨_, b3, hf⟩ := Option.bind_eq_some_iff.mp hf
  refine x_cnV hf (e_stV (Yc := YX36_spaces) (ci := 35) (av := []) (st := []) dX36_readPatterns_6 q5004 mX36_spaces rfl (k_ok_some b3).1 (k_ok_some b3).2) mX36_spaces.2.2.1 mX36_spaces.2.2.2.2.1 (Nat.le_of_ble_eq_true rfl) (Nat.le_of_ble_eq_true rfl) (fun q hq => pX36_spaces (by omega) hq) (fun q4 hf => ?_)
  exact (pX36_readPatterns_b9 hd N _ _ _ hf).to ⟨rfl, trivial⟩
abbrev cX36_patterns : ByteArray := prog_40_method_12_code
def yX36_patterns : MethodName := ⟨RX36, "patterns", "()I"⟩
def YX36_patterns : eY := (yX36_patterns, cX36_patterns, 3, (Option.some FieldType.int), [])
theorem mX36_patterns : e_mv YX36_patterns RX36 0 := ⟨q4997, q4998, q4999, by decide, by decide +kernel, (e_sig (by decide +kernel))⟩
theorem dX36_patterns_0 : decode cX36_patterns 0 = .ok (.aload_n 0, 1) := dc_42 (by decide +kernel)
theorem dX36_patterns_1 : decode cX36_patterns 1 = .ok (.getfield 102, 3) := dc_180 (a := 0) (b := 102) (n := 102) (by decide +kernel)
theorem dX36_patterns_4 : decode cX36_patterns 4 = .ok (.istore_n 1, 1) := dc_60 (by decide +kernel)
theorem dX36_patterns_5 : decode cX36_patterns 5 = .ok (.aload_n 0, 1) := dc_42 (by decide +kernel)
theorem dX36_patterns_6 : decode cX36_patterns 6 = .ok (.invokevirtual 122, 3) := dc_182 (a := 0) (b := 122) (n := 122) (by decide +kernel)
theorem dX36_patterns_9 : decode cX36_patterns 9 = .ok (.istore_n 2, 1) := dc_61 (by decide +kernel)
theorem dX36_patterns_10 : decode cX36_patterns 10 = .ok (.aload_n 0, 1) := dc_42 (by decide +kernel)
theorem dX36_patterns_11 : decode cX36_patterns 11 = .ok (.iconst 0, 1) := dc_3 (by decide +kernel)
theorem dX36_patterns_12 : decode cX36_patterns 12 = .ok (.putfield 74, 3) := dc_181 (a := 0) (b := 74) (n := 74) (by decide +kernel)
theorem dX36_patterns_15 : decode cX36_patterns 15 = .ok (.iload_n 2, 1) := dc_28 (by decide +kernel)
theorem dX36_patterns_16 : decode cX36_patterns 16 = .ok (.ifCond .ge 10, 3) := dc_156 (a := 0) (b := 10) (v := 10) (by decide +kernel)
theorem dX36_patterns_19 : decode cX36_patterns 19 = .ok (.aload_n 0, 1) := dc_42 (by decide +kernel)
theorem dX36_patterns_20 : decode cX36_patterns 20 = .ok (.iload_n 1, 1) := dc_27 (by decide +kernel)
theorem dX36_patterns_21 : decode cX36_patterns 21 = .ok (.putfield 102, 3) := dc_181 (a := 0) (b := 102) (n := 102) (by decide +kernel)
theorem dX36_patterns_24 : decode cX36_patterns 24 = .ok (.iload_n 2, 1) := dc_28 (by decide +kernel)
theorem dX36_patterns_25 : decode cX36_patterns 25 = .ok (.ireturn, 1) := dc_172 (by decide +kernel)
theorem dX36_patterns_26 : decode cX36_patterns 26 = .ok (.aload_n 0, 1) := dc_42 (by decide +kernel)
theorem dX36_patterns_27 : decode cX36_patterns 27 = .ok (.getfield 102, 3) := dc_180 (a := 0) (b := 102) (n := 102) (by decide +kernel)
theorem dX36_patterns_30 : decode cX36_patterns 30 = .ok (.iload_n 1, 1) := dc_27 (by decide +kernel)
theorem dX36_patterns_31 : decode cX36_patterns 31 = .ok (.isub, 1) := dc_100 (by decide +kernel)
theorem dX36_patterns_32 : decode cX36_patterns 32 = .ok (.ireturn, 1) := dc_172 (by decide +kernel)
theorem SX36_74 {w : eW} {d : Nat} {Y : eY} {pc : Nat} {ls : eL} {st : List Value} {h : eH} {Q : eO → eH → Prop} {a : Nat} {h' : eH} {x : Int32} (hf : p_V 35 h a 3 (.int x) = some h') (hd : decode Y.2.1 pc = .ok (.putfield 74, 3)) (hY : Y.1.cls = RX36) (kk : wp w d Y (pc + 3) ls st h' Q) : wp w d Y pc ls (.int x :: .ref a :: st) h Q := x_pI (ci := 35) (k := 3) hf hd rfl (by decide) (by rw [hY]; exact q4134) rfl rfl kk
def fX36_patterns (N : Nat) (this : Nat) (h : eH) : Option (Int32 × eH) :=
  (g_I 35 h this 5).bind fun x1 =>
  (k_ok 35 h this).bind fun _ =>
  (fX36_readPatterns N this h).bind fun q4 =>
  (p_V 35 q4.2 this 3 (.int (0 : Int32))).bind fun h5 =>
  if 0 ≤ q4.1 then
    (g_I 35 h5 this 5).bind fun x8 =>
    some ((x8 - x1), h5)
  else
    (p_V 35 h5 this 5 (.int x1)).bind fun h10 =>
    some (q4.1, h10)
theorem pX36_patterns {w : eW} {d : Nat} (hd : 3 ≤ d) {N : Nat} {this : Nat} {h : eH} {q} (hf : fX36_patterns N this h = some q) : wm w d YX36_patterns [.ref this] h (e_is (e_rn c_I q)) := by
  obtain ⟨d, rfl⟩ : ∃ e, d = e + 1 := ⟨d - 1, by omega⟩
  show wp w (d + 1) YX36_patterns 0 [some (.ref this), none, none] [] h _
  unfold fX36_patterns at hf
  refine w_aload_n dX36_patterns_0 rfl rfl ?_
  obtain ⟨x1, b2, hf⟩ := Option.bind_eq_some_iff.mp hf
  refine GX36_102 b2 dX36_patterns_1 rfl ?_
  refine w_istore_n dX36_patterns_4 rfl (by decide) (ls' := [some (.ref this), some (.int x1), none]) rfl ?_
  refine w_aload_n dX36_patterns_5 rfl rfl ?_
  obtain ⟨_, b3, hf⟩ := Option.bind_eq_some_iff.mp hf
  refine x_cnI hf (e_stV (Yc := YX36_readPatterns) (ci := 35) (av := []) (st := []) dX36_patterns_6 q5000 mX36_readPatterns rfl (k_ok_some b3).1 (k_ok_some b3).2) mX36_readPatterns.2.2.1 mX36_readPatterns.2.2.2.2.1 (Nat.le_of_ble_eq_true rfl) (Nat.le_of_ble_eq_true rfl) (fun q hq => pX36_readPatterns (by omega) hq) (fun q4 hf => ?_)
  refine w_istore_n dX36_patterns_9 rfl (by decide) (ls' := [some (.ref this), some (.int x1), some (.int q4.1)]) rfl ?_
  refine w_aload_n dX36_patterns_10 rfl rfl ?_
  refine w_iconst dX36_patterns_11 (v := 0) (by decide) ?_
  obtain ⟨h5, b6, hf⟩ := Option.bind_eq_some_iff.mp hf
  refine SX36_74 b6 dX36_patterns_12 rfl ?_
  refine w_iload_n dX36_patterns_15 rfl rfl ?_
  refine w_if_ge 26 dX36_patterns_16 (by decide) (fun c7 => ?_) (fun c7 => ?_)
  · replace hf := (if_pos (show 0 ≤ q4.1 from c7)).symm.trans hf
    refine w_aload_n dX36_patterns_26 rfl rfl ?_
    obtain ⟨x8, b9, hf⟩ := Option.bind_eq_some_iff.mp hf
    refine GX36_102 b9 dX36_patterns_27 rfl ?_
    refine w_iload_n dX36_patterns_30 rfl rfl ?_
    refine w_isub dX36_patterns_31 ?_
    cases hf
    exact w_iret dX36_patterns_32 rfl rfl rfl
  · replace hf := (if_neg (show ¬ (0 ≤ q4.1) from c7)).symm.trans hf
    refine w_aload_n dX36_patterns_19 rfl rfl ?_
    refine w_iload_n dX36_patterns_20 rfl rfl ?_
    obtain ⟨h10, b11, hf⟩ := Option.bind_eq_some_iff.mp hf
    refine SX36_102 b11 dX36_patterns_21 rfl ?_
    refine w_iload_n dX36_patterns_24 rfl rfl ?_
    cases hf
    exact w_iret dX36_patterns_25 rfl rfl rfl
abbrev cX36_readWord : ByteArray := prog_40_method_13_code
def yX36_readWord : MethodName := ⟨RX36, "readWord", "()Z"⟩
def YX36_readWord : eY := (yX36_readWord, cX36_readWord, 2, (Option.some FieldType.boolean), [])
theorem mX36_readWord : e_mv YX36_readWord RX36 0 := ⟨q5049, qs230, q5050, by decide, by decide +kernel, (e_sig (by decide +kernel))⟩
theorem dX36_readWord_0 : decode cX36_readWord 0 = .ok (.aload_n 0, 1) := dc_42 (by decide +kernel)
theorem dX36_readWord_1 : decode cX36_readWord 1 = .ok (.iconst 0, 1) := dc_3 (by decide +kernel)
theorem dX36_readWord_2 : decode cX36_readWord 2 = .ok (.putfield 77, 3) := dc_181 (a := 0) (b := 77) (n := 77) (by decide +kernel)
theorem dX36_readWord_5 : decode cX36_readWord 5 = .ok (.iconst 0, 1) := dc_3 (by decide +kernel)
theorem dX36_readWord_6 : decode cX36_readWord 6 = .ok (.istore_n 1, 1) := dc_60 (by decide +kernel)
theorem dX36_readWord_7 : decode cX36_readWord 7 = .ok (.aload_n 0, 1) := dc_42 (by decide +kernel)
theorem dX36_readWord_8 : decode cX36_readWord 8 = .ok (.invokevirtual 95, 3) := dc_182 (a := 0) (b := 95) (n := 95) (by decide +kernel)
theorem dX36_readWord_11 : decode cX36_readWord 11 = .ok (.ifCond .eq 56, 3) := dc_153 (a := 0) (b := 56) (v := 56) (by decide +kernel)
theorem dX36_readWord_14 : decode cX36_readWord 14 = .ok (.aload_n 0, 1) := dc_42 (by decide +kernel)
theorem dX36_readWord_15 : decode cX36_readWord 15 = .ok (.getfield 52, 3) := dc_180 (a := 0) (b := 52) (n := 52) (by decide +kernel)
theorem dX36_readWord_18 : decode cX36_readWord 18 = .ok (.aload_n 0, 1) := dc_42 (by decide +kernel)
theorem dX36_readWord_19 : decode cX36_readWord 19 = .ok (.getfield 77, 3) := dc_180 (a := 0) (b := 77) (n := 77) (by decide +kernel)
theorem dX36_readWord_22 : decode cX36_readWord 22 = .ok (.aload_n 0, 1) := dc_42 (by decide +kernel)
theorem dX36_readWord_23 : decode cX36_readWord 23 = .ok (.getfield 7, 3) := dc_180 (a := 0) (b := 7) (n := 7) (by decide +kernel)
theorem dX36_readWord_26 : decode cX36_readWord 26 = .ok (.aload_n 0, 1) := dc_42 (by decide +kernel)
theorem dX36_readWord_27 : decode cX36_readWord 27 = .ok (.invokevirtual 80, 3) := dc_182 (a := 0) (b := 80) (n := 80) (by decide +kernel)
theorem dX36_readWord_30 : decode cX36_readWord 30 = .ok (.iaload, 1) := dc_46 (by decide +kernel)
theorem dX36_readWord_31 : decode cX36_readWord 31 = .ok (.iastore, 1) := dc_79 (by decide +kernel)
theorem dX36_readWord_32 : decode cX36_readWord 32 = .ok (.aload_n 0, 1) := dc_42 (by decide +kernel)
theorem dX36_readWord_33 : decode cX36_readWord 33 = .ok (.getfield 59, 3) := dc_180 (a := 0) (b := 59) (n := 59) (by decide +kernel)
theorem dX36_readWord_36 : decode cX36_readWord 36 = .ok (.aload_n 0, 1) := dc_42 (by decide +kernel)
theorem dX36_readWord_37 : decode cX36_readWord 37 = .ok (.getfield 77, 3) := dc_180 (a := 0) (b := 77) (n := 77) (by decide +kernel)
theorem dX36_readWord_40 : decode cX36_readWord 40 = .ok (.iconst 0, 1) := dc_3 (by decide +kernel)
theorem dX36_readWord_41 : decode cX36_readWord 41 = .ok (.bastore, 1) := dc_84 (by decide +kernel)
theorem dX36_readWord_42 : decode cX36_readWord 42 = .ok (.aload_n 0, 1) := dc_42 (by decide +kernel)
theorem dX36_readWord_43 : decode cX36_readWord 43 = .ok (.dup, 1) := dc_89 (by decide +kernel)
theorem dX36_readWord_44 : decode cX36_readWord 44 = .ok (.getfield 77, 3) := dc_180 (a := 0) (b := 77) (n := 77) (by decide +kernel)
theorem dX36_readWord_47 : decode cX36_readWord 47 = .ok (.iconst 1, 1) := dc_4 (by decide +kernel)
theorem dX36_readWord_48 : decode cX36_readWord 48 = .ok (.iadd, 1) := dc_96 (by decide +kernel)
theorem dX36_readWord_49 : decode cX36_readWord 49 = .ok (.putfield 77, 3) := dc_181 (a := 0) (b := 77) (n := 77) (by decide +kernel)
theorem dX36_readWord_52 : decode cX36_readWord 52 = .ok (.iconst 0, 1) := dc_3 (by decide +kernel)
theorem dX36_readWord_53 : decode cX36_readWord 53 = .ok (.istore_n 1, 1) := dc_60 (by decide +kernel)
theorem dX36_readWord_54 : decode cX36_readWord 54 = .ok (.aload_n 0, 1) := dc_42 (by decide +kernel)
theorem dX36_readWord_55 : decode cX36_readWord 55 = .ok (.dup, 1) := dc_89 (by decide +kernel)
theorem dX36_readWord_56 : decode cX36_readWord 56 = .ok (.getfield 71, 3) := dc_180 (a := 0) (b := 71) (n := 71) (by decide +kernel)
theorem dX36_readWord_59 : decode cX36_readWord 59 = .ok (.iconst 1, 1) := dc_4 (by decide +kernel)
theorem dX36_readWord_60 : decode cX36_readWord 60 = .ok (.iadd, 1) := dc_96 (by decide +kernel)
theorem dX36_readWord_61 : decode cX36_readWord 61 = .ok (.putfield 71, 3) := dc_181 (a := 0) (b := 71) (n := 71) (by decide +kernel)
theorem dX36_readWord_64 : decode cX36_readWord 64 = .ok (.goto (-57), 3) := dc_167 (a := 255) (b := 199) (v := -57) (by decide +kernel)
theorem dX36_readWord_67 : decode cX36_readWord 67 = .ok (.aload_n 0, 1) := dc_42 (by decide +kernel)
theorem dX36_readWord_68 : decode cX36_readWord 68 = .ok (.invokevirtual 80, 3) := dc_182 (a := 0) (b := 80) (n := 80) (by decide +kernel)
theorem dX36_readWord_71 : decode cX36_readWord 71 = .ok (.bipush 45, 2) := dc_16 (a := 45) (v := 45) (by decide +kernel)
theorem dX36_readWord_73 : decode cX36_readWord 73 = .ok (.if_icmp .ne 41, 3) := dc_160 (a := 0) (b := 41) (v := 41) (by decide +kernel)
theorem dX36_readWord_76 : decode cX36_readWord 76 = .ok (.aload_n 0, 1) := dc_42 (by decide +kernel)
theorem dX36_readWord_77 : decode cX36_readWord 77 = .ok (.getfield 77, 3) := dc_180 (a := 0) (b := 77) (n := 77) (by decide +kernel)
theorem dX36_readWord_80 : decode cX36_readWord 80 = .ok (.ifCond .le 34, 3) := dc_158 (a := 0) (b := 34) (v := 34) (by decide +kernel)
theorem dX36_readWord_83 : decode cX36_readWord 83 = .ok (.iload_n 1, 1) := dc_27 (by decide +kernel)
theorem dX36_readWord_84 : decode cX36_readWord 84 = .ok (.ifCond .ne 30, 3) := dc_154 (a := 0) (b := 30) (v := 30) (by decide +kernel)
theorem dX36_readWord_87 : decode cX36_readWord 87 = .ok (.aload_n 0, 1) := dc_42 (by decide +kernel)
theorem dX36_readWord_88 : decode cX36_readWord 88 = .ok (.getfield 59, 3) := dc_180 (a := 0) (b := 59) (n := 59) (by decide +kernel)
theorem dX36_readWord_91 : decode cX36_readWord 91 = .ok (.aload_n 0, 1) := dc_42 (by decide +kernel)
theorem dX36_readWord_92 : decode cX36_readWord 92 = .ok (.getfield 77, 3) := dc_180 (a := 0) (b := 77) (n := 77) (by decide +kernel)
theorem dX36_readWord_95 : decode cX36_readWord 95 = .ok (.iconst 1, 1) := dc_4 (by decide +kernel)
theorem dX36_readWord_96 : decode cX36_readWord 96 = .ok (.isub, 1) := dc_100 (by decide +kernel)
theorem dX36_readWord_97 : decode cX36_readWord 97 = .ok (.iconst 1, 1) := dc_4 (by decide +kernel)
theorem dX36_readWord_98 : decode cX36_readWord 98 = .ok (.bastore, 1) := dc_84 (by decide +kernel)
theorem dX36_readWord_99 : decode cX36_readWord 99 = .ok (.iconst 1, 1) := dc_4 (by decide +kernel)
theorem dX36_readWord_100 : decode cX36_readWord 100 = .ok (.istore_n 1, 1) := dc_60 (by decide +kernel)
theorem dX36_readWord_101 : decode cX36_readWord 101 = .ok (.aload_n 0, 1) := dc_42 (by decide +kernel)
theorem dX36_readWord_102 : decode cX36_readWord 102 = .ok (.dup, 1) := dc_89 (by decide +kernel)
theorem dX36_readWord_103 : decode cX36_readWord 103 = .ok (.getfield 71, 3) := dc_180 (a := 0) (b := 71) (n := 71) (by decide +kernel)
theorem dX36_readWord_106 : decode cX36_readWord 106 = .ok (.iconst 1, 1) := dc_4 (by decide +kernel)
theorem dX36_readWord_107 : decode cX36_readWord 107 = .ok (.iadd, 1) := dc_96 (by decide +kernel)
theorem dX36_readWord_108 : decode cX36_readWord 108 = .ok (.putfield 71, 3) := dc_181 (a := 0) (b := 71) (n := 71) (by decide +kernel)
theorem dX36_readWord_111 : decode cX36_readWord 111 = .ok (.goto (-104), 3) := dc_167 (a := 255) (b := 152) (v := -104) (by decide +kernel)
theorem dX36_readWord_114 : decode cX36_readWord 114 = .ok (.aload_n 0, 1) := dc_42 (by decide +kernel)
theorem dX36_readWord_115 : decode cX36_readWord 115 = .ok (.getfield 77, 3) := dc_180 (a := 0) (b := 77) (n := 77) (by decide +kernel)
theorem dX36_readWord_118 : decode cX36_readWord 118 = .ok (.ifCond .le 18, 3) := dc_158 (a := 0) (b := 18) (v := 18) (by decide +kernel)
theorem dX36_readWord_121 : decode cX36_readWord 121 = .ok (.iload_n 1, 1) := dc_27 (by decide +kernel)
theorem dX36_readWord_122 : decode cX36_readWord 122 = .ok (.ifCond .ne 14, 3) := dc_154 (a := 0) (b := 14) (v := 14) (by decide +kernel)
theorem dX36_readWord_125 : decode cX36_readWord 125 = .ok (.aload_n 0, 1) := dc_42 (by decide +kernel)
theorem dX36_readWord_126 : decode cX36_readWord 126 = .ok (.invokevirtual 99, 3) := dc_182 (a := 0) (b := 99) (n := 99) (by decide +kernel)
theorem dX36_readWord_129 : decode cX36_readWord 129 = .ok (.ifCond .eq 7, 3) := dc_153 (a := 0) (b := 7) (v := 7) (by decide +kernel)
theorem dX36_readWord_132 : decode cX36_readWord 132 = .ok (.iconst 1, 1) := dc_4 (by decide +kernel)
theorem dX36_readWord_133 : decode cX36_readWord 133 = .ok (.goto 4, 3) := dc_167 (a := 0) (b := 4) (v := 4) (by decide +kernel)
theorem dX36_readWord_136 : decode cX36_readWord 136 = .ok (.iconst 0, 1) := dc_3 (by decide +kernel)
theorem dX36_readWord_137 : decode cX36_readWord 137 = .ok (.ireturn, 1) := dc_172 (by decide +kernel)
theorem GX36_59 {w : eW} {d : Nat} {Y : eY} {pc : Nat} {ls : eL} {st : List Value} {h : eH} {Q : eO → eH → Prop} {a : Nat} {x : Nat} (hf : g_A 35 h a 22 = some x) (hd : decode Y.2.1 pc = .ok (.getfield 59, 3)) (hY : Y.1.cls = RX36) (kk : wp w d Y (pc + 3) ls (.ref x :: st) h Q) : wp w d Y pc ls (.ref a :: st) h Q := x_gA (ci := 35) (k := 22) hf hd rfl (by decide) (by rw [hY]; exact q4155) kk
def fX36_readWord_b137 (N : Nat) (s0 : Int32) (h : eH) : Option (Int32 × eH) :=
  z_r s0 (s0, h)
theorem pX36_readWord_b137 {w : eW} {d : Nat} (hd : 1 ≤ d + 1) {N : Nat} {s0 : Int32} {h : eH} {q} (hf : fX36_readWord_b137 N s0 h = some q) : wp w (d + 1) YX36_readWord 137 [none, none] [.int s0] h (e_is (e_rn c_I q)) := by
  unfold fX36_readWord_b137 at hf
  obtain ⟨b1, rfl⟩ := z_r_some hf
  exact w_iret dX36_readWord_137 rfl b1 rfl
def fX36_readWord_b136 (N : Nat)  (h : eH) : Option (Int32 × eH) :=
  fX36_readWord_b137 N (0 : Int32) h
theorem pX36_readWord_b136 {w : eW} {d : Nat} (hd : 1 ≤ d + 1) {N : Nat}  {h : eH} {q} (hf : fX36_readWord_b136 N h = some q) : wp w (d + 1) YX36_readWord 136 [none, none] [] h (e_is (e_rn c_I q)) := by
  unfold fX36_readWord_b136 at hf
  refine w_iconst dX36_readWord_136 (v := 0) (by decide) ?_
  exact (pX36_readWord_b137 hd hf).to trivial
def fX36_readWord_b114 (N : Nat) (l0 : Nat) (l1 : Int32) (h : eH) : Option (Int32 × eH) :=
  (g_I 35 h l0 17).bind fun x1 =>
  if x1 ≤ 0 then
    fX36_readWord_b136 N h
  else
    if ¬ l1 = 0 then
      fX36_readWord_b136 N h
    else
      (k_ok 35 h l0).bind fun _ =>
      (fX36_isOver l0 h).bind fun q6 =>
      if q6.1 = 0 then
        fX36_readWord_b136 N q6.2
      else
        fX36_readWord_b137 N (1 : Int32) q6.2
theorem pX36_readWord_b114 {w : eW} {d : Nat} (hd : 1 ≤ d + 1) {N : Nat} {l0 : Nat} {l1 : Int32} {h : eH} {q} (hf : fX36_readWord_b114 N l0 l1 h = some q) : wp w (d + 1) YX36_readWord 114 [some (.ref l0), some (.int l1)] [] h (e_is (e_rn c_I q)) := by
  unfold fX36_readWord_b114 at hf
  refine w_aload_n dX36_readWord_114 rfl rfl ?_
  obtain ⟨x1, b2, hf⟩ := Option.bind_eq_some_iff.mp hf
  refine GX36_77 b2 dX36_readWord_115 rfl ?_
  refine w_if_le 136 dX36_readWord_118 (by decide) (fun c3 => ?_) (fun c3 => ?_)
  · replace hf := (if_pos (show x1 ≤ 0 from c3)).symm.trans hf
    exact (pX36_readWord_b136 hd hf).to trivial
  · replace hf := (if_neg (show ¬ (x1 ≤ 0) from c3)).symm.trans hf
    refine w_iload_n dX36_readWord_121 rfl rfl ?_
    refine w_if_ne 136 dX36_readWord_122 (by decide) (fun c4 => ?_) (fun c4 => ?_)
    · replace hf := (if_pos (show ¬ l1 = 0 from c4)).symm.trans hf
      exact (pX36_readWord_b136 hd hf).to trivial
    · replace hf := (if_neg (show ¬ (¬ l1 = 0) from (fun z => z c4))).symm.trans hf
      refine w_aload_n dX36_readWord_125 rfl rfl ?_
      obtain ⟨_, b5, hf⟩ := Option.bind_eq_some_iff.mp hf
      refine x_cnI hf (e_stV (Yc := YX36_isOver) (ci := 35) (av := []) (st := []) dX36_readWord_126 q5023 mX36_isOver rfl (k_ok_some b5).1 (k_ok_some b5).2) mX36_isOver.2.2.1 mX36_isOver.2.2.2.2.1 (Nat.le_of_ble_eq_true rfl) (Nat.le_of_ble_eq_true rfl) (fun q hq => pX36_isOver (by omega) hq) (fun q6 hf => ?_)
      refine w_if_eq 136 dX36_readWord_129 (by decide) (fun c7 => ?_) (fun c7 => ?_)
      · replace hf := (if_pos (show q6.1 = 0 from c7)).symm.trans hf
        exact (pX36_readWord_b136 hd hf).to trivial
      · replace hf := (if_neg (show ¬ (q6.1 = 0) from c7)).symm.trans hf
        refine w_iconst dX36_readWord_132 (v := 1) (by decide) ?_
        refine w_goto 137 dX36_readWord_133 (by decide) ?_
        exact (pX36_readWord_b137 hd hf).to trivial
def fX36_readWord_b7 (N : Nat) : Nat → Nat → Int32 → eH → Option (Int32 × eH)
  | 0, _, _, _ => none
  | n + 1, l0, l1, h =>
    (k_ok 35 h l0).bind fun _ =>
    (fX36_isLetter l0 h).bind fun q2 =>
    if q2.1 = 0 then
      (k_ok 35 q2.2 l0).bind fun _ =>
      (fX36_look l0 q2.2).bind fun q5 =>
      if ¬ q5.1 = (45 : Int32) then
        fX36_readWord_b114 N l0 l1 q5.2
      else
        (g_I 35 q5.2 l0 17).bind fun x7 =>
        if x7 ≤ 0 then
          fX36_readWord_b114 N l0 l1 q5.2
        else
          if ¬ l1 = 0 then
            fX36_readWord_b114 N l0 l1 q5.2
          else
            (g_A 35 q5.2 l0 22).bind fun a11 =>
            (g_I 35 q5.2 l0 17).bind fun x13 =>
            (q_V 103 q5.2 a11 (x13 - (1 : Int32)) (.int ((1 : Int32) &&& 1))).bind fun h15 =>
            (g_I 35 h15 l0 16).bind fun x17 =>
            (p_V 35 h15 l0 16 (.int (x17 + (1 : Int32)))).bind fun h19 =>
            fX36_readWord_b7 N n l0 (1 : Int32) h19
    else
      (g_A 35 q2.2 l0 20).bind fun a21 =>
      (g_I 35 q2.2 l0 17).bind fun x23 =>
      (g_A 35 q2.2 l0 0).bind fun a25 =>
      (k_ok 35 q2.2 l0).bind fun _ =>
      (fX36_look l0 q2.2).bind fun q28 =>
      (r_I 100 q28.2 a25 q28.1).bind fun x29 =>
      (q_V 100 q28.2 a21 x23 (.int x29)).bind fun h31 =>
      (g_A 35 h31 l0 22).bind fun a33 =>
      (g_I 35 h31 l0 17).bind fun x35 =>
      (q_V 103 h31 a33 x35 (.int ((0 : Int32) &&& 1))).bind fun h37 =>
      (g_I 35 h37 l0 17).bind fun x39 =>
      (p_V 35 h37 l0 17 (.int (x39 + (1 : Int32)))).bind fun h41 =>
      (g_I 35 h41 l0 16).bind fun x43 =>
      (p_V 35 h41 l0 16 (.int (x43 + (1 : Int32)))).bind fun h45 =>
      fX36_readWord_b7 N n l0 (0 : Int32) h45
theorem pX36_readWord_b7 {w : eW} {d : Nat} (hd : 1 ≤ d + 1) {N : Nat} : ∀ (n : Nat) l0 l1 h q, fX36_readWord_b7 N n l0 l1 h = some q → wp w (d + 1) YX36_readWord 7 [some (.ref l0), some (.int l1)] [] h (e_is (e_rn c_I q)) := by
  intro n
  induction n with
  | zero => intro l0 l1 h q hf; simp [fX36_readWord_b7] at hf
  | succ n ih =>
    intro l0 l1 h q hf
    rw [fX36_readWord_b7] at hf
    refine w_aload_n dX36_readWord_7 rfl rfl ?_
    obtain ⟨_, b1, hf⟩ := Option.bind_eq_some_iff.mp hf
    refine x_cnI hf (e_stV (Yc := YX36_isLetter) (ci := 35) (av := []) (st := []) dX36_readWord_8 q5019 mX36_isLetter rfl (k_ok_some b1).1 (k_ok_some b1).2) mX36_isLetter.2.2.1 mX36_isLetter.2.2.2.2.1 (Nat.le_of_ble_eq_true rfl) (Nat.le_of_ble_eq_true rfl) (fun q hq => pX36_isLetter (by omega) hq) (fun q2 hf => ?_)
    refine w_if_eq 67 dX36_readWord_11 (by decide) (fun c3 => ?_) (fun c3 => ?_)
    · replace hf := (if_pos (show q2.1 = 0 from c3)).symm.trans hf
      refine w_aload_n dX36_readWord_67 rfl rfl ?_
      obtain ⟨_, b4, hf⟩ := Option.bind_eq_some_iff.mp hf
      refine x_cnI hf (e_stV (Yc := YX36_look) (ci := 35) (av := []) (st := []) dX36_readWord_68 q5012 mX36_look rfl (k_ok_some b4).1 (k_ok_some b4).2) mX36_look.2.2.1 mX36_look.2.2.2.2.1 (Nat.le_of_ble_eq_true rfl) (Nat.le_of_ble_eq_true rfl) (fun q hq => pX36_look (by omega) hq) (fun q5 hf => ?_)
      refine w_bipush dX36_readWord_71 (v := 45) (by decide) ?_
      refine w_icmp_ne 114 dX36_readWord_73 (by decide) (fun c6 => ?_) (fun c6 => ?_)
      · replace hf := (if_pos (show ¬ q5.1 = (45 : Int32) from c6)).symm.trans hf
        exact (pX36_readWord_b114 hd hf).to ⟨rfl, rfl, trivial⟩
      · replace hf := (if_neg (show ¬ (¬ q5.1 = (45 : Int32)) from (fun z => z c6))).symm.trans hf
        refine w_aload_n dX36_readWord_76 rfl rfl ?_
        obtain ⟨x7, b8, hf⟩ := Option.bind_eq_some_iff.mp hf
        refine GX36_77 b8 dX36_readWord_77 rfl ?_
        refine w_if_le 114 dX36_readWord_80 (by decide) (fun c9 => ?_) (fun c9 => ?_)
        · replace hf := (if_pos (show x7 ≤ 0 from c9)).symm.trans hf
          exact (pX36_readWord_b114 hd hf).to ⟨rfl, rfl, trivial⟩
        · replace hf := (if_neg (show ¬ (x7 ≤ 0) from c9)).symm.trans hf
          refine w_iload_n dX36_readWord_83 rfl rfl ?_
          refine w_if_ne 114 dX36_readWord_84 (by decide) (fun c10 => ?_) (fun c10 => ?_)
          · replace hf := (if_pos (show ¬ l1 = 0 from c10)).symm.trans hf
            exact (pX36_readWord_b114 hd hf).to ⟨rfl, rfl, trivial⟩
          · replace hf := (if_neg (show ¬ (¬ l1 = 0) from (fun z => z c10))).symm.trans hf
            refine w_aload_n dX36_readWord_87 rfl rfl ?_
            obtain ⟨a11, b12, hf⟩ := Option.bind_eq_some_iff.mp hf
            refine GX36_59 b12 dX36_readWord_88 rfl ?_
            refine w_aload_n dX36_readWord_91 rfl rfl ?_
            obtain ⟨x13, b14, hf⟩ := Option.bind_eq_some_iff.mp hf
            refine GX36_77 b14 dX36_readWord_92 rfl ?_
            refine w_iconst dX36_readWord_95 (v := 1) (by decide) ?_
            refine w_isub dX36_readWord_96 ?_
            refine w_iconst dX36_readWord_97 (v := 1) (by decide) ?_
            obtain ⟨h15, b16, hf⟩ := Option.bind_eq_some_iff.mp hf
            refine x_qZ b16 dX36_readWord_98 ?_
            refine w_iconst dX36_readWord_99 (v := 1) (by decide) ?_
            refine w_istore_n dX36_readWord_100 rfl (by decide) (ls' := [some (.ref l0), some (.int (1 : Int32))]) rfl ?_
            refine w_aload_n dX36_readWord_101 rfl rfl ?_
            refine w_dup dX36_readWord_102 rfl ?_
            obtain ⟨x17, b18, hf⟩ := Option.bind_eq_some_iff.mp hf
            refine GX36_71 b18 dX36_readWord_103 rfl ?_
            refine w_iconst dX36_readWord_106 (v := 1) (by decide) ?_
            refine w_iadd dX36_readWord_107 ?_
            obtain ⟨h19, b20, hf⟩ := Option.bind_eq_some_iff.mp hf
            refine SX36_71 b20 dX36_readWord_108 rfl ?_
            refine w_goto 7 dX36_readWord_111 (by decide) ?_
            exact (ih _ _ _ _ hf).to ⟨rfl, rfl, trivial⟩
    · replace hf := (if_neg (show ¬ (q2.1 = 0) from c3)).symm.trans hf
      refine w_aload_n dX36_readWord_14 rfl rfl ?_
      obtain ⟨a21, b22, hf⟩ := Option.bind_eq_some_iff.mp hf
      refine GX36_52 b22 dX36_readWord_15 rfl ?_
      refine w_aload_n dX36_readWord_18 rfl rfl ?_
      obtain ⟨x23, b24, hf⟩ := Option.bind_eq_some_iff.mp hf
      refine GX36_77 b24 dX36_readWord_19 rfl ?_
      refine w_aload_n dX36_readWord_22 rfl rfl ?_
      obtain ⟨a25, b26, hf⟩ := Option.bind_eq_some_iff.mp hf
      refine GX36_7 b26 dX36_readWord_23 rfl ?_
      refine w_aload_n dX36_readWord_26 rfl rfl ?_
      obtain ⟨_, b27, hf⟩ := Option.bind_eq_some_iff.mp hf
      refine x_cnI hf (e_stV (Yc := YX36_look) (ci := 35) (av := []) (st := [.ref a25, .int x23, .ref a21]) dX36_readWord_27 q5012 mX36_look rfl (k_ok_some b27).1 (k_ok_some b27).2) mX36_look.2.2.1 mX36_look.2.2.2.2.1 (Nat.le_of_ble_eq_true rfl) (Nat.le_of_ble_eq_true rfl) (fun q hq => pX36_look (by omega) hq) (fun q28 hf => ?_)
      obtain ⟨x29, b30, hf⟩ := Option.bind_eq_some_iff.mp hf
      refine x_rI b30 dX36_readWord_30 ?_
      obtain ⟨h31, b32, hf⟩ := Option.bind_eq_some_iff.mp hf
      refine x_qI b32 dX36_readWord_31 ?_
      refine w_aload_n dX36_readWord_32 rfl rfl ?_
      obtain ⟨a33, b34, hf⟩ := Option.bind_eq_some_iff.mp hf
      refine GX36_59 b34 dX36_readWord_33 rfl ?_
      refine w_aload_n dX36_readWord_36 rfl rfl ?_
      obtain ⟨x35, b36, hf⟩ := Option.bind_eq_some_iff.mp hf
      refine GX36_77 b36 dX36_readWord_37 rfl ?_
      refine w_iconst dX36_readWord_40 (v := 0) (by decide) ?_
      obtain ⟨h37, b38, hf⟩ := Option.bind_eq_some_iff.mp hf
      refine x_qZ b38 dX36_readWord_41 ?_
      refine w_aload_n dX36_readWord_42 rfl rfl ?_
      refine w_dup dX36_readWord_43 rfl ?_
      obtain ⟨x39, b40, hf⟩ := Option.bind_eq_some_iff.mp hf
      refine GX36_77 b40 dX36_readWord_44 rfl ?_
      refine w_iconst dX36_readWord_47 (v := 1) (by decide) ?_
      refine w_iadd dX36_readWord_48 ?_
      obtain ⟨h41, b42, hf⟩ := Option.bind_eq_some_iff.mp hf
      refine SX36_77 b42 dX36_readWord_49 rfl ?_
      refine w_iconst dX36_readWord_52 (v := 0) (by decide) ?_
      refine w_istore_n dX36_readWord_53 rfl (by decide) (ls' := [some (.ref l0), some (.int (0 : Int32))]) rfl ?_
      refine w_aload_n dX36_readWord_54 rfl rfl ?_
      refine w_dup dX36_readWord_55 rfl ?_
      obtain ⟨x43, b44, hf⟩ := Option.bind_eq_some_iff.mp hf
      refine GX36_71 b44 dX36_readWord_56 rfl ?_
      refine w_iconst dX36_readWord_59 (v := 1) (by decide) ?_
      refine w_iadd dX36_readWord_60 ?_
      obtain ⟨h45, b46, hf⟩ := Option.bind_eq_some_iff.mp hf
      refine SX36_71 b46 dX36_readWord_61 rfl ?_
      refine w_goto 7 dX36_readWord_64 (by decide) ?_
      exact (ih _ _ _ _ hf).to ⟨rfl, rfl, trivial⟩
def fX36_readWord (N : Nat) (this : Nat) (h : eH) : Option (Int32 × eH) :=
  (p_V 35 h this 17 (.int (0 : Int32))).bind fun h1 =>
  fX36_readWord_b7 N N this (0 : Int32) h1
theorem pX36_readWord {w : eW} {d : Nat} (hd : 1 ≤ d) {N : Nat} {this : Nat} {h : eH} {q} (hf : fX36_readWord N this h = some q) : wm w d YX36_readWord [.ref this] h (e_is (e_rn c_I q)) := by
  obtain ⟨d, rfl⟩ : ∃ e, d = e + 1 := ⟨d - 1, by omega⟩
  show wp w (d + 1) YX36_readWord 0 [some (.ref this), none] [] h _
  unfold fX36_readWord at hf
  refine w_aload_n dX36_readWord_0 rfl rfl ?_
  refine w_iconst dX36_readWord_1 (v := 0) (by decide) ?_
  obtain ⟨h1, b2, hf⟩ := Option.bind_eq_some_iff.mp hf
  refine SX36_77 b2 dX36_readWord_2 rfl ?_
  refine w_iconst dX36_readWord_5 (v := 0) (by decide) ?_
  refine w_istore_n dX36_readWord_6 rfl (by decide) (ls' := [some (.ref this), some (.int (0 : Int32))]) rfl ?_
  exact (pX36_readWord_b7 hd N _ _ _ _ hf).to ⟨rfl, rfl, trivial⟩
